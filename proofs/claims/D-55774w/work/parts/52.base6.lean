/-! ===== base 6: arrays of references ===== -/
theorem KS.ao {G : GG} {A : Nat → Prop} {U : State} {H : Heap} (h : KS G A U H) : va_AO "java/lang/Object" U := va_AO.moved h.2.2.1.alike (va_AO.of (h.1 _ q214))
/-- the cache's boxes -/
abbrev icA (G : GG) : Nat → Nat := fun k => G.2.1 (10 + k)
/-- what the start says of the cache of boxes -/
def ICok (G : GG) : Prop := (∃ t : Nat, va_Z "java/lang/Integer$IntegerCache" "cache" "[Ljava/lang/Integer;" (.ref t) (fun q => G.2.2.1.heap.size ≤ q) G.2.2.1 G.2.2.1.heap ∧ va_T (.object "java/lang/Integer") t 256 (fun k => .ref (icA G k)) (fun q => G.2.2.1.heap.size ≤ q) G.2.2.1 G.2.2.1.heap) ∧ vb_C (icA G) (fun q => G.2.2.1.heap.size ≤ q) G.2.2.1 G.2.2.1.heap
theorem KS.ic {G : GG} {A : Nat → Prop} {U : State} {H : Heap} (h : KS G A U H) (hi : ICok G) : vb_C (icA G) A U H := (vb_C.moved h.2.2.1.alike (hi.2.kept (fun a ha _ => (h.2.2.2 a ha).2))).narrow h.up
theorem KS.it {G : GG} {A : Nat → Prop} {U : State} {H : Heap} (h : KS G A U H) (hi : ICok G) : ∃ t : Nat, va_Z "java/lang/Integer$IntegerCache" "cache" "[Ljava/lang/Integer;" (.ref t) A U H ∧ va_T (.object "java/lang/Integer") t 256 (fun k => .ref (icA G k)) A U H := by
  obtain ⟨t, h1, h2⟩ := hi.1
  exact ⟨t, (va_Z.moved h.2.2.1.alike (h1.kept (fun a ha _ => (h.2.2.2 a ha).2))).narrow h.up, (va_T.moved h.2.2.1.alike (h2.kept (fun a ha _ => (h.2.2.2 a ha).2))).narrow h.up⟩
section ARQ
variable {p : Program} {l : Launch} {e : Env} {R : Room} {s : State} {m : MethodId} {args : Array Value} {below : List Frame} {meth : Method} {c : Code} {H : Heap} {locs : List Loc} {cells slots : Nat} {Q : State → Prop} {cc : ByteArray} {pc : Nat} {ls : Array Slot} {rest : List Value} {G : GG} {ws : va_W} {A : Nat → Prop} {H0 : Heap} {a : Nat}
theorem q_aald (hx : p.tables.exec = Jvm.exec) (hb : c.code = cc) (hK : va_K G.1 CL (TYS G) s) (hP : va_P G.1 CL ws H) (q0 : Nat) {f : Nat → Option Nat} {n i : Nat} (ha : ws[q0]? = some (a, .inl (G.2.1 6, n, .inr (.inr (.inr (.inr (f))))))) (hi : i < n) (hn : n < 2147483648) (hd : decode cc pc = .ok (.aaload, 1)) (kk : W p l e R s m args below meth c H locs cells slots Q (F0 m (pc + 1) ls (va_rf (f i) :: rest))) : W p l e R s m args below meth c H locs cells slots Q (F0 m pc ls (.int (nI i) :: .ref a :: rest)) := va_aldq hx hb hK hP q0 6 ha rfl (vp_in_nI hi hn) hd (by rw [nI_clamp (Nat.lt_trans hi hn)]; exact kk)
theorem q_aastN (hx : p.tables.exec = Jvm.exec) (hb : c.code = cc) (hK : va_K G.1 CL (TYS G) s) (hP : va_P G.1 CL ws H) (hD : va_D A ws) (hS : va_S A H0 H locs) (q0 : Nat) {f : Nat → Option Nat} {n i : Nat} (ha : ws[q0]? = some (a, .inl (G.2.1 6, n, .inr (.inr (.inr (.inr (f))))))) (hi : i < n) (hn : n < 2147483648) (hd : decode cc pc = .ok (.aastore, 1)) (kk : ∀ (H1 : Heap) (locs1 : List Loc), va_P G.1 CL (ws.set q0 (a, .inl (G.2.1 6, n, .inr (.inr (.inr (.inr (va_up f i none))))))) H1 → va_D A (ws.set q0 (a, .inl (G.2.1 6, n, .inr (.inr (.inr (.inr (va_up f i none))))))) → va_S A H0 H1 locs1 → W p l e R s m args below meth c H1 locs1 cells slots Q (F0 m (pc + 1) ls rest)) : W p l e R s m args below meth c H locs cells slots Q (F0 m pc ls (.null :: .int (nI i) :: .ref a :: rest)) := va_astqN hx hb hK hP hD hS q0 6 ha rfl (vp_in_nI hi hn) hd (by rw [nI_clamp (Nat.lt_trans hi hn)]; exact kk)
theorem q_aastO (hx : p.tables.exec = Jvm.exec) (hb : c.code = cc) (hK : va_K G.1 CL (TYS G) s) (hP : va_P G.1 CL ws H) (hD : va_D A ws) (hS : va_S A H0 H locs) (q0 qk ci : Nat) {r : vw_C} {v : Nat} {vs : List Value} {f : Nat → Option Nat} {n i : Nat} (ha : ws[q0]? = some (a, .inl (G.2.1 6, n, .inr (.inr (.inr (.inr (f))))))) (hca : va_Nw (.castable r.1 "java/lang/Object") s) (hv : ws[qk]? = some (v, .inr (ci, vs))) (hc : CL[ci]? = some r) (hi : i < n) (hn : n < 2147483648) (hd : decode cc pc = .ok (.aastore, 1)) (kk : ∀ (H1 : Heap) (locs1 : List Loc), va_P G.1 CL (ws.set q0 (a, .inl (G.2.1 6, n, .inr (.inr (.inr (.inr (va_up f i (some v)))))))) H1 → va_D A (ws.set q0 (a, .inl (G.2.1 6, n, .inr (.inr (.inr (.inr (va_up f i (some v)))))))) → va_S A H0 H1 locs1 → W p l e R s m args below meth c H1 locs1 cells slots Q (F0 m (pc + 1) ls rest)) : W p l e R s m args below meth c H locs cells slots Q (F0 m pc ls (.ref v :: .int (nI i) :: .ref a :: rest)) := va_astqO hx hb hK hP hD hS q0 6 qk ci ha rfl hca hv hc (vp_in_nI hi hn) hd (by rw [nI_clamp (Nat.lt_trans hi hn)]; exact kk)
theorem q_aastI (hx : p.tables.exec = Jvm.exec) (hb : c.code = cc) (hK : va_K G.1 CL (TYS G) s) (hZ : KS G A s s.heap) (hIC : ICok G) (hca : va_Nw (.castable "java/lang/Integer" "java/lang/Object") s) (hP : va_P G.1 CL ws H) (hD : va_D A ws) (hS : va_S A s.heap H locs) (q0 : Nat) {k : Nat} (hk : k < 256) {f : Nat → Option Nat} {n i : Nat} (ha : ws[q0]? = some (a, .inl (G.2.1 6, n, .inr (.inr (.inr (.inr (f))))))) (hi : i < n) (hn : n < 2147483648) (hd : decode cc pc = .ok (.aastore, 1)) (kk : ∀ (H1 : Heap) (locs1 : List Loc), va_P G.1 CL (ws.set q0 (a, .inl (G.2.1 6, n, .inr (.inr (.inr (.inr (va_up f i (some (icA G k))))))))) H1 → va_D A (ws.set q0 (a, .inl (G.2.1 6, n, .inr (.inr (.inr (.inr (va_up f i (some (icA G k))))))))) → va_S A s.heap H1 locs1 → W p l e R s m args below meth c H1 locs1 cells slots Q (F0 m (pc + 1) ls rest)) : W p l e R s m args below meth c H locs cells slots Q (F0 m pc ls (.ref (icA G k) :: .int (nI i) :: .ref a :: rest)) := by
  have h1 : vb_C (icA G) A s H := (hZ.ic hIC).kept (fun a ha hna => hS.2.1 a ha hna)
  obtain ⟨cell, g1, g2, g3, -⟩ := h1.1 k hk
  exact vb_astq hx hb hK hP hD hS q0 6 ha rfl ⟨cell, g1, g2, g3⟩ (vb_asgC hca) (vp_in_nI hi hn) hd (by rw [nI_clamp (Nat.lt_trans hi hn)]; exact kk)
theorem nw_obj (hx : p.tables.exec = Jvm.exec) (hb : c.code = cc) {own : String} {index : Nat} (hown : s.vm.findClass own = some m.cls) (hcl : (Cond.classLink own index "java/lang/Object").before args s = true) (hZ : KS G A s s.heap) (hK : va_K G.1 CL (TYS G) s) (hP : va_P G.1 CL ws H) (hD : va_D A ws) (hS : va_S A H0 H locs) (hA : ∀ q, H0.size ≤ q → A q) {n : Nat} (hn : n < 65536) (hc : cells + 1 ≤ R.cells) (hs : slots + n ≤ R.slots) (hd : decode cc pc = .ok (.anewarray index, 3))
    (kk : ∀ (q : Nat) (H1 : Heap), va_P G.1 CL (ws ++ [(q, .inl (G.2.1 6, n, .inr (.inr (.inr (.inr (fun _ => none))))))]) H1 → va_D A (ws ++ [(q, .inl (G.2.1 6, n, .inr (.inr (.inr (.inr (fun _ => none))))))]) → va_S A H0 H1 locs → W p l e R s m args below meth c H1 locs (cells + 1) (slots + n) Q (F0 m (pc + 3) ls (.ref q :: rest))) : W p l e R s m args below meth c H locs cells slots Q (F0 m pc ls (.int (nI n) :: rest)) := by
  refine va_newq hx hb hown hcl hZ.ao hK hP hD hS hA (nI_pos (by omega)) (nI_clamp (by omega)) (by omega) hc hs hd (fun q cB H1 hK1 hP1 hD1 hS1 => ?_)
  obtain ⟨_, _, _, _, _, f1⟩ := (hK1.2 (TYS G).length (cB, .object "java/lang/Object") (by simp)).2
  obtain ⟨_, _, _, _, _, f2⟩ := (hK.2 6 (G.2.1 6, .object "java/lang/Object") rfl).2
  have e : cB = G.2.1 6 := Option.some.inj (f1.symm.trans f2)
  subst e
  exact kk q H1 hP1 hD1 hS1
end ARQ
section CALLF5
variable {p : Program} {l : Launch} {e : Env} {R : Room} {s : State} {m : MethodId} {args : Array Value} {below : List Frame} {meth : Method} {c : Code} {H : Heap} {locs : List Loc} {cells slots : Nat} {Q : State → Prop} {G : GG} {A : Nat → Prop} {cc bytes : ByteArray} {pc : Nat} {ls : Array Slot} {own : String} {index nL maxL n : Nat} {x y : MethodName} {ret : Option FieldType} {rm : Room} {As rest st0 : List Value} {b : Nat} {ws wc wr : va_W}
theorem callFi {q : vw_C} {S : Type} {post : Int32 → S → Prop} {ws1 : S → va_W} (C9 : CallFix p m c cc nL s args lw_all own) (hM : MM l G y bytes maxL ret rm (.ref b :: As) wc (Qi_ G post ws1)) (cw : va_CI R s args own q.1 index x y bytes maxL ret (ws_ y bytes maxL ret) rm rm.cells rm.slots n) (hK : va_K G.1 CL (TYS G) s) (hZ : KS G A s s.heap) (hA : ∀ q : Nat, s.heap.size ≤ q → A q) (hP : va_P G.1 CL ws H) (hD : va_D A ws) (hS : va_S A s.heap H locs) (isC isR : List Nat) (hC : isC.map (fun i => ws[i]?) = wc.map some) (hR : isR.map (fun i => ws[i]?) = wr.map some) (hnc : va_nd isC = true) (hnr : va_nd isR = true) (hdis : ∀ i ∈ isR, i ∉ isC) (q0 ci : Nat) {fs : List Value} (hc : CL[ci]? = some q) (he : wc[q0]? = some (b, .inr (ci, fs))) (hn : As.length = n) (hsz : ls.size = nL) (hrest : (rest.map fun v => v.category).sum ≤ 8) (hf : cells + rm.cells ≤ R.cells ∧ slots + rm.slots ≤ R.slots) (hst : st0 = As.reverse ++ .ref b :: rest) {count : Nat} (hd : decode cc pc = .ok (.invokeinterface index count, 5))
    (kk : ∀ (r : Int32) (u : S) (H1 : Heap) (locs1 : List Loc), post r u → va_P G.1 CL (wr ++ ws1 u) H1 → va_D A (wr ++ ws1 u) → va_S A s.heap H1 locs1 → W p l e R s m args below meth c H1 locs1 (cells + rm.cells) (slots + rm.slots) Q (F0 m (pc + 5) ls (.int r :: rest))) : W p l e R s m args below meth c H locs cells slots Q (F0 m pc ls st0) := by
  have hF := free_of hA hD hS isC hC
  have hPc := cut_P hP isC hC
  have hDc := hD.sub isC hnc hC
  refine va_callFi (va_runF (rest := rest) (hK.1 ci q hc).2 C9 (hM H.size) cw (pre_V hK hZ hS hPc hDc hF hc he) rfl hn hsz hst (lv_room hrest) hd hf) hS (fun q _ h => hF q h) hF (fun r u t H1 locs1 ht hvm hw hB hz1 hk1 hS1 => ?_)
  obtain ⟨hP1, hD1⟩ := hB
  rw [ht] at hP1
  obtain ⟨hP2, hD2⟩ := va_join (wr := wr) hP hD isC isR hC hR hnr hdis hk1 hF hP1 hD1
  exact kk r u H1 locs1 hw hP2 hD2 hS1
theorem callFv {q : vw_C} {S : Type} {post : S → Prop} {ws1 : S → va_W} (C9 : CallFix p m c cc nL s args lw_all own) (hM : MM l G y bytes maxL ret rm (.ref b :: As) wc (Qv_ G post ws1)) (cw : va_CI R s args own q.1 index x y bytes maxL ret (ws_ y bytes maxL ret) rm rm.cells rm.slots n) (hK : va_K G.1 CL (TYS G) s) (hZ : KS G A s s.heap) (hA : ∀ q : Nat, s.heap.size ≤ q → A q) (hP : va_P G.1 CL ws H) (hD : va_D A ws) (hS : va_S A s.heap H locs) (isC isR : List Nat) (hC : isC.map (fun i => ws[i]?) = wc.map some) (hR : isR.map (fun i => ws[i]?) = wr.map some) (hnc : va_nd isC = true) (hnr : va_nd isR = true) (hdis : ∀ i ∈ isR, i ∉ isC) (q0 ci : Nat) {fs : List Value} (hc : CL[ci]? = some q) (he : wc[q0]? = some (b, .inr (ci, fs))) (hn : As.length = n) (hsz : ls.size = nL) (hrest : (rest.map fun v => v.category).sum ≤ 8) (hf : cells + rm.cells ≤ R.cells ∧ slots + rm.slots ≤ R.slots) (hst : st0 = As.reverse ++ .ref b :: rest) {count : Nat} (hd : decode cc pc = .ok (.invokeinterface index count, 5))
    (kk : ∀ (u : S) (H1 : Heap) (locs1 : List Loc), post u → va_P G.1 CL (wr ++ ws1 u) H1 → va_D A (wr ++ ws1 u) → va_S A s.heap H1 locs1 → W p l e R s m args below meth c H1 locs1 (cells + rm.cells) (slots + rm.slots) Q (F0 m (pc + 5) ls rest)) : W p l e R s m args below meth c H locs cells slots Q (F0 m pc ls st0) := by
  have hF := free_of hA hD hS isC hC
  have hPc := cut_P hP isC hC
  have hDc := hD.sub isC hnc hC
  refine va_callFv (va_runF (rest := rest) (hK.1 ci q hc).2 C9 (hM H.size) cw (pre_V hK hZ hS hPc hDc hF hc he) rfl hn hsz hst (lv_room hrest) hd hf) hS (fun q _ h => hF q h) hF (fun u t H1 locs1 ht hvm hw hB hz1 hk1 hS1 => ?_)
  obtain ⟨hP1, hD1⟩ := hB
  rw [ht] at hP1
  obtain ⟨hP2, hD2⟩ := va_join (wr := wr) hP hD isC isR hC hR hnr hdis hk1 hF hP1 hD1
  exact kk u H1 locs1 hw hP2 hD2 hS1
theorem callFr {q : vw_C} {S : Type} {post : Nat → S → Prop} {ws1 : Nat → S → va_W} (C9 : CallFix p m c cc nL s args lw_all own) (hM : MM l G y bytes maxL ret rm (.ref b :: As) wc (Qr_ G post ws1)) (cw : va_CI R s args own q.1 index x y bytes maxL ret (ws_ y bytes maxL ret) rm rm.cells rm.slots n) (hK : va_K G.1 CL (TYS G) s) (hZ : KS G A s s.heap) (hA : ∀ q : Nat, s.heap.size ≤ q → A q) (hP : va_P G.1 CL ws H) (hD : va_D A ws) (hS : va_S A s.heap H locs) (isC isR : List Nat) (hC : isC.map (fun i => ws[i]?) = wc.map some) (hR : isR.map (fun i => ws[i]?) = wr.map some) (hnc : va_nd isC = true) (hnr : va_nd isR = true) (hdis : ∀ i ∈ isR, i ∉ isC) (q0 ci : Nat) {fs : List Value} (hc : CL[ci]? = some q) (he : wc[q0]? = some (b, .inr (ci, fs))) (hn : As.length = n) (hsz : ls.size = nL) (hrest : (rest.map fun v => v.category).sum ≤ 8) (hf : cells + rm.cells ≤ R.cells ∧ slots + rm.slots ≤ R.slots) (hst : st0 = As.reverse ++ .ref b :: rest) {count : Nat} (hd : decode cc pc = .ok (.invokeinterface index count, 5))
    (kk : ∀ (r : Nat) (u : S) (H1 : Heap) (locs1 : List Loc), post r u → va_P G.1 CL (wr ++ ws1 r u) H1 → va_D A (wr ++ ws1 r u) → va_S A s.heap H1 locs1 → W p l e R s m args below meth c H1 locs1 (cells + rm.cells) (slots + rm.slots) Q (F0 m (pc + 5) ls (.ref r :: rest))) : W p l e R s m args below meth c H locs cells slots Q (F0 m pc ls st0) := by
  have hF := free_of hA hD hS isC hC
  have hPc := cut_P hP isC hC
  have hDc := hD.sub isC hnc hC
  refine va_callFr (va_runF (rest := rest) (hK.1 ci q hc).2 C9 (hM H.size) cw (pre_V hK hZ hS hPc hDc hF hc he) rfl hn hsz hst (lv_room hrest) hd hf) hS (fun q _ h => hF q h) hF (fun u r t H1 locs1 ht hvm hw hB hz1 hk1 hS1 => ?_)
  obtain ⟨hw9, hB⟩ := hB
  obtain ⟨hP1, hD1⟩ := hB
  rw [ht] at hP1
  obtain ⟨hP2, hD2⟩ := va_join (wr := wr) hP hD isC isR hC hR hnr hdis hk1 hF hP1 hD1
  exact kk r u H1 locs1 hw9 hP2 hD2 hS1
theorem callFq {q : vw_C} {S : Type} {post : Option Nat → S → Prop} {ws1 : S → va_W} (C9 : CallFix p m c cc nL s args lw_all own) (hM : MM l G y bytes maxL ret rm (.ref b :: As) wc (Qq_ G post ws1)) (cw : va_CI R s args own q.1 index x y bytes maxL ret (ws_ y bytes maxL ret) rm rm.cells rm.slots n) (hK : va_K G.1 CL (TYS G) s) (hZ : KS G A s s.heap) (hA : ∀ q : Nat, s.heap.size ≤ q → A q) (hP : va_P G.1 CL ws H) (hD : va_D A ws) (hS : va_S A s.heap H locs) (isC isR : List Nat) (hC : isC.map (fun i => ws[i]?) = wc.map some) (hR : isR.map (fun i => ws[i]?) = wr.map some) (hnc : va_nd isC = true) (hnr : va_nd isR = true) (hdis : ∀ i ∈ isR, i ∉ isC) (q0 ci : Nat) {fs : List Value} (hc : CL[ci]? = some q) (he : wc[q0]? = some (b, .inr (ci, fs))) (hn : As.length = n) (hsz : ls.size = nL) (hrest : (rest.map fun v => v.category).sum ≤ 8) (hf : cells + rm.cells ≤ R.cells ∧ slots + rm.slots ≤ R.slots) (hst : st0 = As.reverse ++ .ref b :: rest) {count : Nat} (hd : decode cc pc = .ok (.invokeinterface index count, 5))
    (kk : ∀ (r : Option Nat) (u : S) (H1 : Heap) (locs1 : List Loc), post r u → va_P G.1 CL (wr ++ ws1 u) H1 → va_D A (wr ++ ws1 u) → va_S A s.heap H1 locs1 → W p l e R s m args below meth c H1 locs1 (cells + rm.cells) (slots + rm.slots) Q (F0 m (pc + 5) ls (va_rf r :: rest))) : W p l e R s m args below meth c H locs cells slots Q (F0 m pc ls st0) := by
  have hF := free_of hA hD hS isC hC
  have hPc := cut_P hP isC hC
  have hDc := hD.sub isC hnc hC
  refine va_callFq (va_runF (rest := rest) (hK.1 ci q hc).2 C9 (hM H.size) cw (pre_V hK hZ hS hPc hDc hF hc he) rfl hn hsz hst (lv_room hrest) hd hf) hS (fun q _ h => hF q h) hF (fun r u t H1 locs1 ht hvm hw hB hz1 hk1 hS1 => ?_)
  obtain ⟨hP1, hD1⟩ := hB
  rw [ht] at hP1
  obtain ⟨hP2, hD2⟩ := va_join (wr := wr) hP hD isC isR hC hR hnr hdis hk1 hF hP1 hD1
  exact kk r u H1 locs1 hw hP2 hD2 hS1
end CALLF5
theorem lw_F {own C : String} {idx : Nat} {x y : MethodName} {b : ByteArray} {L : Nat} {r : Option FieldType} (h1 : Cond.methodLink own idx x ∈ lw_all) (h2 : Cond.selects C x y ∈ lw_all) (h3 : Cond.instanceMethod y ∈ lw_all) (h4 : Cond.initialized y.cls ∈ lw_all) (h5 : Cond.code y b L r ∈ lw_all) : GoodIn lw_all (va_wsF own idx C x y (ws_ y b L r)) := by
  refine lw_app ?_ (lw_meth h5)
  intro w hw
  simp only [List.mem_cons, List.not_mem_nil, or_false] at hw
  rcases hw with rfl | rfl | rfl | rfl
  · exact h1
  · exact h2
  · exact h3
  · exact h4
theorem KS.fw {G : GG} {A : Nat → Prop} {U : State} {H : Heap} (h : KS G A U H) {C : String} {x y : MethodName} (hx : x.cls ≠ "java/lang/invoke/MethodHandle" ∧ x.cls ≠ "java/lang/invoke/VarHandle") (h1 : Cond.declares x ∈ lw_tbl) (h2 : Cond.interfaceMethod x.cls x.cls x.name x.desc ∈ lw_tbl) (h3 : Cond.publicMethod y ∈ lw_tbl) (h4 : Cond.unhidden C x.name x.desc ∈ lw_tbl) (h5 : Cond.castable C x.cls ∈ lw_tbl) : va_Fw C x y U :=
  va_Fw.moved hx h.2.2.1.alike (va_Fw.of (h.1 _ h1) (h.1 _ h2) (h.1 _ h3) (h.1 _ h4) (h.1 _ h5))
