theorem vb_cn (k : Nat) : vb_c (k + 128) = nI k := by
  show nI (k + 128) - nI 128 = nI k
  rw [pk_sub (by omega), Nat.add_sub_cancel]
set_option maxHeartbeats 4000000 in
set_option maxRecDepth 100000 in
theorem m_J18_intValue (l : Launch) (G : GG) (k : Nat) (hk : k ≤ 127) (hIC : ICok G) : MM l G yJ18_intValue cJ18_intValue 1 (some .int) ⟨0, 0, 0, 0⟩ [.ref (icA G (k + 128))] ([] : va_W) (Qi_ G (fun (r : Int32) (_ : Unit) => r = nI k) (fun (_ : Unit) => ([] : va_W))) := by
  refine MM.of (by decide) (Nat.le_of_ble_eq_true rfl) ?_
  intro p e s m args below meth cd A C hini hA hK hZ hP hD ls hl
  generalize hQ : MQ below ((Qi_ G (fun (r : Int32) (_ : Unit) => r = nI k) (fun (_ : Unit) => ([] : va_W))) A) args s (⟨0, 0, 0, 0⟩ : Room).cells (⟨0, 0, 0, 0⟩ : Room).slots A = Q
  obtain ⟨hx, hb, hr, hts, hown, hlk, hml⟩ := C
  have hown : s.vm.findClass RJ18 = some m.cls := hown
  have hS : va_S A s.heap s.heap [] := va_S.rf
  have hl : lv_has ls 1 [(0, .ref (icA G (k + 128)))] := hl
  refine lv_aload_n hx hb dJ18_intValue_0 rfl (lv_at hl 0 rfl) ?_
  refine va_getX (i := (k + 128)) (v := fun k => .int (vb_c k)) hx hb (hZ.ic hIC).2 (by omega) hS hown (hts _ q560) (fun _ h => h) dJ18_intValue_1 ?_
  refine eq_i (y := nI k) (vb_cn _) ?_
  subst hQ
  exact ret_i hx hb hr hlk () rfl hP hD hS rfl dJ18_intValue_4
section CALLJ
variable {p : Program} {l : Launch} {e : Env} {R : Room} {s : State} {m : MethodId} {args : Array Value} {below : List Frame} {meth : Method} {c : Code} {H : Heap} {locs : List Loc} {cells slots : Nat} {Q : State → Prop} {G : GG} {A : Nat → Prop} {cc bytes : ByteArray} {pc : Nat} {ls : Array Slot} {own : String} {index nL maxL n : Nat} {y : MethodName} {ret : Option FieldType} {rm : Room} {As rest st0 : List Value} {wr : va_W}
/-- a call on a cached box -/
theorem callVJi {S : Type} {post : Int32 → S → Prop} (C9 : CallFix p m c cc nL s args lw_all own) (hIC : ICok G) {j : Nat} (hj : j < 256) (hM : MM l G y bytes maxL ret rm (.ref (icA G j) :: As) [] (Qi_ G post (fun _ => ([] : va_W)))) (cw : CallW R s args own "java/lang/Integer" index y bytes maxL ret (ws_ y bytes maxL ret) rm rm.cells rm.slots n) (hK : va_K G.1 CL (TYS G) s) (hZ : KS G A s s.heap) (hA : ∀ q : Nat, s.heap.size ≤ q → A q) (hP : va_P G.1 CL wr H) (hD : va_D A wr) (hS : va_S A s.heap H locs)
    (hn : As.length = n) (hsz : ls.size = nL) (hrest : (rest.map fun v => v.category).sum ≤ 8) (hf : cells + rm.cells ≤ R.cells ∧ slots + rm.slots ≤ R.slots) (hst : st0 = As.reverse ++ .ref (icA G j) :: rest) (hd : decode cc pc = .ok (.invokevirtual index, 3))
    (kk : ∀ (r : Int32) (u : S) (H1 : Heap) (locs1 : List Loc), post r u → va_P G.1 CL wr H1 → va_D A wr → va_S A s.heap H1 locs1 → W p l e R s m args below meth c H1 locs1 (cells + rm.cells) (slots + rm.slots) Q (F0 m (pc + 3) ls (.int r :: rest))) : W p l e R s m args below meth c H locs cells slots Q (F0 m pc ls st0) := by
  have hP0 : va_P G.1 CL (([] : va_W) ++ wr) H := hP
  have hD0 : va_D A (([] : va_W) ++ wr) := hD
  have hF := free_of hA hD0 hS (ixC []) ixC_ok
  have hPc := cut_P hP0 (ixC []) ixC_ok
  have hDc := hD0.sub (ixC []) ixC_nd ixC_ok
  have hpre : PreV s H "java/lang/Integer" (icA G j) (Pre G (.ref (icA G j) :: As) [] H.size) As := by
    have h1 : vb_C (icA G) A s H := (hZ.ic hIC).kept (fun a ha hna => hS.2.1 a ha hna)
    obtain ⟨cell, g1, g2, g3, -⟩ := h1.1 j hj
    exact ⟨Pre.blind _ _ _ _, ⟨cell, g1, g2, g3⟩, fun U hU hW => ⟨rfl, by rw [hU], by rw [hU]; exact hPc, va_K.moved hW.alike hK, by rw [hU]; exact hZ.down hS hF hW, hDc.weaken (fun _ _ _ _ => trivial)⟩⟩
  refine va_calli (va_runV (rest := rest) C9 (hM H.size) cw hpre rfl hn hsz hst (lv_room hrest) hd hf) hS (fun q _ h => hF q h) hF (fun r u t H1 locs1 ht hvm hw hB hz1 hk1 hS1 => ?_)
  obtain ⟨hP1, hD1⟩ := hB
  rw [ht] at hP1
  obtain ⟨hP2, hD2⟩ := va_join (wr := wr) hP0 hD0 (ixC []) (ixR [] wr) ixC_ok ixR_ok ixR_nd ix_dis hk1 hF hP1 hD1
  rw [List.append_nil] at hP2 hD2
  exact kk r u H1 locs1 hw hP2 hD2 hS1
end CALLJ
