/-! ===== base 4 ===== -/
section CALLF
variable {p : Program} {l : Launch} {e : Env} {R : Room} {s : State} {m : MethodId} {args : Array Value} {below : List Frame} {meth : Method} {c : Code} {H : Heap} {locs : List Loc} {cells slots : Nat} {Q : State → Prop} {G : GG} {A : Nat → Prop} {cc bytes : ByteArray} {pc : Nat} {ls : Array Slot} {own : String} {index nL maxL n : Nat} {y : MethodName} {ret : Option FieldType} {rm : Room} {As rest st0 : List Value} {b : Nat} {ws wc wr : va_W}
/-- a constructor on a fresh object -/
theorem callF {S : Type} {post : S → Prop} {ws1 : S → va_W} {ci : Nat} {kC : Class} (C9 : CallFix p m c cc nL s args lw_all own) (hM : ∀ sz : Nat, Met l y (ws_ y bytes maxL none) rm (PreF G (.ref b :: As) wc sz b ci) (Qv_ G post ws1 (va_A wc sz)) rm.cells rm.slots (va_A wc sz)) (cw : CallB R s args own index y bytes maxL none (ws_ y bytes maxL none) rm rm.cells rm.slots n ∧ y.name = "<init>" ∧ (Cond.instanceMethod y).before args s = true) (hK : va_K G.1 CL (TYS G) s) (hZ : KS G A s s.heap) (hA : ∀ q : Nat, s.heap.size ≤ q → A q) (hP : va_P G.1 CL ws H) (hD : va_D A ws) (hS : va_S A s.heap H locs) (isC isR : List Nat) (hC : isC.map (fun i => ws[i]?) = wc.map some) (hR : isR.map (fun i => ws[i]?) = wr.map some) (hnc : va_nd isC = true) (hnr : va_nd isR = true) (hdis : ∀ i ∈ isR, i ∉ isC) (hkC : s.vm.classes[G.1.1 ci]? = some kC) (hbl : H[b]? = some (blank (G.1.1 ci) kC)) (hn : As.length = n) (hsz : ls.size = nL) (hrest : (rest.map fun v => v.category).sum ≤ 8) (hf : cells + rm.cells ≤ R.cells ∧ slots + rm.slots ≤ R.slots) (hst : st0 = As.reverse ++ .ref b :: rest) (hd : decode cc pc = .ok (.invokespecial index, 3))
    (kk : ∀ (u : S) (H1 : Heap) (locs1 : List Loc), post u → va_P G.1 CL (wr ++ ws1 u) H1 → va_D A (wr ++ ws1 u) → va_S A s.heap H1 locs1 → W p l e R s m args below meth c H1 locs1 (cells + rm.cells) (slots + rm.slots) Q (F0 m (pc + 3) ls rest)) : W p l e R s m args below meth c H locs cells slots Q (F0 m pc ls st0) := by
  have hF := free_of hA hD hS isC hC
  have hPc := cut_P hP isC hC
  have hDc := hD.sub isC hnc hC
  have hpre : PreS s H (PreF G (.ref b :: As) wc H.size b ci) (.ref b :: As) := ⟨PreF.blind _ _ _ _ _ _, fun U hU hW => ⟨(pre_S (As := .ref b :: As) hK hZ hS hPc hDc hF).2 U hU hW, by
    obtain ⟨k', hk', he'⟩ := hW.alike.2.2 _ _ hkC
    refine ⟨k', hk', ?_⟩
    rw [hU, hbl]
    have e9 : k'.instanceTypes = kC.instanceTypes := by rw [he']
    simp only [blank, e9]⟩⟩
  refine va_callv (va_runI (rest := rest) C9 (hM H.size) cw hpre rfl hn hsz hst (lv_room hrest) hd hf) hS (fun q _ h => hF q h) hF (fun u t H1 locs1 ht hvm hw hB hz1 hk1 hS1 => ?_)
  obtain ⟨hP1, hD1⟩ := hB
  rw [ht] at hP1
  obtain ⟨hP2, hD2⟩ := va_join (wr := wr) hP hD isC isR hC hR hnr hdis hk1 hF hP1 hD1
  exact kk u H1 locs1 hw hP2 hD2 hS1
end CALLF
abbrev RFW (G : GG) (h : Nat) (r d : Int32) : va_W := [(h, .inr (5, [.int r, .int d]))]
abbrev FTW (G : GG) (h : Nat) (r : Int32) : va_W := [(h, .inr (7, [.int r]))]
abbrev UOW (G : GG) (h : Nat) : va_W := [(h, .inr (14, []))]
