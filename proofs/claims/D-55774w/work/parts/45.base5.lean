/-! ===== base 5: bytes, shifts, statics, super.m ===== -/
/-- a byte -/
def b8 (n : Nat) : Int32 := (nI n).toInt8.toInt32
def bB (f : Nat → Nat) : Nat → Int32 := fun k => b8 (f k)
theorem b8_mod (n : Nat) : b8 n = b8 (n % 256) := by
  unfold b8 nI
  rw [Int32.toInt8_ofNat', Int32.toInt8_ofNat']
  congr 1
  apply Int8.toBitVec_inj.mp
  show BitVec.ofNat 8 n = BitVec.ofNat 8 (n % 256)
  apply BitVec.eq_of_toNat_eq
  simp
theorem b8_and (n : Nat) : b8 n &&& nI 255 = nI (n % 256) := by
  rw [b8_mod]
  have h : ∀ k, k < 256 → b8 k &&& nI 255 = nI k := by decide +kernel
  exact h _ (Nat.mod_lt _ (by decide))
theorem b8_nar (n : Nat) : vp_nar .byte (b8 n) = b8 n := by
  rw [b8_mod]
  have h : ∀ k, k < 256 → vp_nar .byte (b8 k) = b8 k := by decide +kernel
  exact h _ (Nat.mod_lt _ (by decide))
theorem b8_fit (n : Nat) : fits .byte (.int (b8 n)) = true := by
  rw [b8_mod]
  have h : ∀ k, k < 256 → fits .byte (.int (b8 k)) = true := by decide +kernel
  exact h _ (Nat.mod_lt _ (by decide))
theorem bI_narB (b : Bool) : narrow .byte (.int (bI b)) = .int (bI b) := by cases b <;> decide
theorem bB_up (L : Nat → Nat) (i v : Nat) : upd (bB L) i (b8 v) = bB (va_up L i v) := by
  funext k; unfold upd bB va_up; split <;> rfl
theorem bB_cpy (L M : Nat → Nat) (a b n : Nat) : va_cpy (bB L) (bB M) a b n = bB (va_cpy L M a b n) := by
  funext k; by_cases h : b ≤ k ∧ k < b + n <;> simp [bB, va_cpy, h]
theorem bB_0 : (fun _ => (0 : Int32)) = bB (fun _ => 0) := by funext k; show (0 : Int32) = b8 0; decide
theorem or8 {a b : Nat} (ha : a < 256) (hb : b < 256) : nI a ||| nI (b * 256) = nI (a + b * 256) := by
  apply Int32.toBitVec_inj.mp
  have e : (nI a ||| nI (b * 256)).toBitVec = (nI a).toBitVec ||| (nI (b * 256)).toBitVec := rfl
  rw [e]
  apply BitVec.eq_of_toNat_eq
  show (BitVec.ofNat 32 a ||| BitVec.ofNat 32 (b * 256)).toNat = (BitVec.ofNat 32 (a + b * 256)).toNat
  rw [BitVec.toNat_or, BitVec.toNat_ofNat, BitVec.toNat_ofNat, BitVec.toNat_ofNat, Nat.mod_eq_of_lt (by omega), Nat.mod_eq_of_lt (by omega), Nat.mod_eq_of_lt (by omega)]
  have h := Nat.two_pow_add_eq_or_of_lt (i := 8) (b := a) (by omega) b
  rw [Nat.or_comm, Nat.mul_comm b 256, Nat.add_comm]
  exact h.symm
section NUM5
variable {p : Program} {l : Launch} {e : Env} {R : Room} {s : State} {m : MethodId} {args : Array Value} {below : List Frame} {meth : Method} {c : Code} {H : Heap} {locs : List Loc} {cells slots : Nat} {Q : State → Prop} {cc : ByteArray} {pc : Nat} {ls : Array Slot} {rest : List Value} {D : va_G} {cl : List vw_C} {tys : List (ClassId × FieldType)} {ws : va_W} {A : Nat → Prop} {H0 : Heap} {a a0 : Nat} {cA : ClassId}
theorem n_ishl (k : Nat) (hx : p.tables.exec = Jvm.exec) (hb : c.code = cc) {x : Nat} {y : Int32} (hy : y = nI k) (hk : k < 31) (h : x * 2 ^ k < 2147483648) (hd : decode cc pc = .ok (.ishl, 1)) (kk : W p l e R s m args below meth c H locs cells slots Q (F0 m (pc + 1) ls (.int (nI (x * 2 ^ k)) :: rest))) : W p l e R s m args below meth c H locs cells slots Q (F0 m pc ls (.int y :: .int (nI x) :: rest)) := by
  subst hy
  refine lv_ishl hx hb hd ?_
  have e : nI x <<< (nI k &&& 31) = nI (x * 2 ^ k) := by
    have hs : ∀ k, k < 31 → ((nI k &&& 31).toBitVec.smod 32).toNat = k := by decide +kernel
    exact pk_shlN _ k (hs k hk) (by omega)
  rw [e]; exact kk
theorem n_ishr (k : Nat) (hx : p.tables.exec = Jvm.exec) (hb : c.code = cc) {x : Nat} {y : Int32} (hy : y = nI k) (hk : k < 31) (h : x < 2147483648) (hd : decode cc pc = .ok (.ishr, 1)) (kk : W p l e R s m args below meth c H locs cells slots Q (F0 m (pc + 1) ls (.int (nI (x / 2 ^ k)) :: rest))) : W p l e R s m args below meth c H locs cells slots Q (F0 m pc ls (.int y :: .int (nI x) :: rest)) := by
  subst hy
  refine lv_ishr hx hb hd ?_
  have e : nI x >>> (nI k &&& 31) = nI (x / 2 ^ k) := by
    have hs : ∀ k, k < 31 → ((nI k &&& 31).toBitVec.smod 32).toNat = k := by decide +kernel
    exact pk_shrN (by omega) _ k (hs k hk)
  rw [e]; exact kk
theorem y_bald (hx : p.tables.exec = Jvm.exec) (hb : c.code = cc) (hK : va_K D cl tys s) (hP : va_P D cl ws H) (q0 t0 : Nat) {L : Nat → Nat} {n i : Nat} (ha : ws[q0]? = some (a, .inl (cA, n, .inl (bB L)))) (ht : tys[t0]? = some (cA, .byte)) (hi : i < n) (hn : n < 2147483648) (hd : decode cc pc = .ok (.baload, 1)) (kk : W p l e R s m args below meth c H locs cells slots Q (F0 m (pc + 1) ls (.int (b8 (L i)) :: rest))) : W p l e R s m args below meth c H locs cells slots Q (F0 m pc ls (.int (nI i) :: .ref a :: rest)) := va_bald hx hb hK hP q0 t0 ha ht (vp_in_nI hi hn) hd (by rw [nI_clamp (Nat.lt_trans hi hn)]; exact kk)
theorem y_bast (hx : p.tables.exec = Jvm.exec) (hb : c.code = cc) (hK : va_K D cl tys s) (hP : va_P D cl ws H) (hD : va_D A ws) (hS : va_S A H0 H locs) (q0 t0 : Nat) {L : Nat → Nat} {v n i : Nat} (ha : ws[q0]? = some (a, .inl (cA, n, .inl (bB L)))) (ht : tys[t0]? = some (cA, .byte)) (hi : i < n) (hn : n < 2147483648) (hd : decode cc pc = .ok (.bastore, 1)) (kk : ∀ (H1 : Heap) (locs1 : List Loc), va_P D cl (ws.set q0 (a, .inl (cA, n, .inl (bB (va_up L i v))))) H1 → va_D A (ws.set q0 (a, .inl (cA, n, .inl (bB (va_up L i v))))) → va_S A H0 H1 locs1 → W p l e R s m args below meth c H1 locs1 cells slots Q (F0 m (pc + 1) ls rest)) : W p l e R s m args below meth c H locs cells slots Q (F0 m pc ls (.int (b8 v) :: .int (nI i) :: .ref a :: rest)) := va_bast hx hb hK hP hD hS q0 t0 ha ht (vp_in_nI hi hn) hd (by rw [nI_clamp (Nat.lt_trans hi hn), b8_nar, bB_up]; exact kk)
theorem cp_y (hx : p.tables.exec = Jvm.exec) (hb : c.code = cc) (hml : c.maxLocals = ls.size) {own : String} {index : Nat} (hown : s.vm.findClass own = some m.cls) (hlink : (Cond.methodLink own index arraycopyName).before args s = true) (hnat : (Cond.native arraycopyName).before args s = true) (hstat : (Cond.static arraycopyName).before args s = true) (hini : (Cond.initialized "java/lang/System").before args s = true) (hK : va_K D cl tys s) (hP : va_P D cl ws H) (hD : va_D A ws) (hS : va_S A H0 H locs) (q0 q1 t0 : Nat) {c0 : ClassId} {n0 n1 : Nat} {f g : Nat → Nat} (ha0 : ws[q0]? = some (a0, .inl (c0, n0, .inl (bB f)))) (ha1 : ws[q1]? = some (a, .inl (c0, n1, .inl (bB g)))) (ht0 : tys[t0]? = some (c0, .byte)) {sp dp n : Nat} (h4 : sp + n ≤ n0) (h5 : dp + n ≤ n1) (hb0 : n0 < 65536) (hb1 : n1 < 65536) (hframes : 1 ≤ R.frames) (hlocals : (rest.map fun v => v.category).sum + (nativeFrameWords "java/lang/System" "arraycopy" 5 + 11) ≤ R.locals) (hd : decode cc pc = .ok (.invokestatic index, 3))
    (kk : ∀ (H1 : Heap) (locs1 : List Loc), va_P D cl (ws.set q1 (a, .inl (c0, n1, .inl (bB (va_cpy f g sp dp n))))) H1 → va_D A (ws.set q1 (a, .inl (c0, n1, .inl (bB (va_cpy f g sp dp n))))) → va_S A H0 H1 locs1 → W p l e R s m args below meth c H1 locs1 cells slots Q (F0 m (pc + 3) ls rest)) : W p l e R s m args below meth c H locs cells slots Q (F0 m pc ls (.int (nI n) :: .int (nI dp) :: .ref a :: .int (nI sp) :: .ref a0 :: rest)) := by
  have e1 : (nI sp).toNatClampNeg = sp := nI_clamp (by omega)
  have e2 : (nI dp).toNatClampNeg = dp := nI_clamp (by omega)
  have e3 : (nI n).toNatClampNeg = n := nI_clamp (by omega)
  refine va_copyi hx hb hml hown hlink hnat hstat hini hK hP hD hS q0 q1 t0 t0 ha0 ha1 ht0 ht0 rfl (nI_pos (by omega)) (nI_pos (by omega)) (nI_pos (by omega)) (by rw [e1, e3]; exact h4) (by rw [e2, e3]; exact h5) (fun i hi => b8_fit _) hframes hlocals hd ?_
  rw [e1, e2, e3, bB_cpy]
  exact kk
theorem n_mmax (hx : p.tables.exec = Jvm.exec) (hb : c.code = cc) (hml : c.maxLocals = ls.size) {own : String} {index : Nat} (hown : s.vm.findClass own = some m.cls) (hlink : (Cond.methodLink own index Lib.Math.max.name).before args s = true) (hstat : (Cond.static Lib.Math.max.name).before args s = true) (hini : (Cond.initialized "java/lang/Math").before args s = true) (hcode : (Cond.code Lib.Math.max.name Lib.Math.max.code 2 (some .int)).before args s = true) (hframes : 1 ≤ R.frames) (hlocals : (rest.map fun v => v.category).sum + 13 ≤ R.locals) (hc : cells ≤ R.cells) (hs : slots ≤ R.slots) {x y : Nat} (h1 : x < 2147483648) (h2 : y < 2147483648) (hd : decode cc pc = .ok (.invokestatic index, 3))
    (kk : W p l e R s m args below meth c H locs cells slots Q (F0 m (pc + 3) ls (.int (nI (max x y)) :: rest))) : W p l e R s m args below meth c H locs cells slots Q (F0 m pc ls (.int (nI y) :: .int (nI x) :: rest)) := by
  refine va_mmax hx hb hml hown hlink hstat hini hcode hframes hlocals hc hs hd ?_
  have e : (if nI x < nI y then nI y else nI x) = nI (max x y) := by
    by_cases h : x < y
    · rw [if_pos ((nI_ltI h1 h2).mpr h), Nat.max_eq_right (by omega)]
    · rw [if_neg (fun z => h ((nI_ltI h1 h2).mp z)), Nat.max_eq_left (by omega)]
  rw [e]
  exact kk
theorem get_s {G : GG} (hx : p.tables.exec = Jvm.exec) (hb : c.code = cc) {C n d own : String} {v : Value} {index : Nat} (hz : va_Z C n d v A s s.heap) (hS : va_S A s.heap H locs) (hown : s.vm.findClass own = some m.cls) (hlink : (Cond.fieldLink own index C n d).before args s = true) (hd : decode cc pc = .ok (.getstatic index, 3)) (kk : W p l e R s m args below meth c H locs cells slots Q (F0 m (pc + 3) ls (v :: rest))) : W p l e R s m args below meth c H locs cells slots Q (F0 m pc ls rest) := va_gets hx hb hz hS hown hlink (fun _ h => h) hd kk
end NUM5
theorem KS.zs {G : GG} {A : Nat → Prop} {U : State} {H : Heap} (h : KS G A U H) {C n d : String} {v : Int32} (hl : Cond.laysStatic C n d ∈ lw_tbl) (hi : Cond.initialized C ∈ lw_tbl) (hw : Cond.eq (.static C n d) (.int v) ∈ flatC (Jvm.Cond.and given_1 narrow_1)) : va_Z C n d (.int v) A U H := by
  have h0 : va_Z C n d (.int v) (fun q => G.2.2.1.heap.size ≤ q) G.2.2.1 G.2.2.1.heap := va_Zof (h.1 _ hl) (h.1 _ hi) (va_eqi (h.nar hw)) (fun a ha => Nat.not_le.mpr ha)
  exact (va_Z.moved h.2.2.1.alike (h0.kept (fun a ha _ => (h.2.2.2 a ha).2))).narrow h.up
theorem KS.zo {G : GG} {A : Nat → Prop} {U : State} {H : Heap} (h : KS G A U H) {C n d : String} (hl : Cond.laysStatic C n d ∈ lw_tbl) (hi : Cond.initialized C ∈ lw_tbl) (hw : Cond.isRef (.static C n d) ∈ flatC (Jvm.Cond.and given_1 narrow_1)) : ∃ o : Option Nat, va_Z C n d (va_rf o) A U H := by
  rcases (h.zq hl hi (h.nar hw)).1 with h1 | ⟨t, h1⟩
  · exact ⟨none, h1⟩
  · exact ⟨some t, h1⟩
theorem KS.zCS {G : GG} {A : Nat → Prop} {U : State} {H : Heap} (h : KS G A U H) : va_Z "java/lang/String" "COMPACT_STRINGS" "Z" (.int (nI 1)) A U H := h.zs q244 (lw_all_tbl q95) (by decide +kernel)
theorem KS.zAD {G : GG} {A : Nat → Prop} {U : State} {H : Heap} (h : KS G A U H) : va_Z "java/lang/StringUTF16" "$assertionsDisabled" "Z" (.int (nI 1)) A U H := h.zs q762 (lw_all_tbl q96) (by decide +kernel)
theorem KS.zHI {G : GG} {A : Nat → Prop} {U : State} {H : Heap} (h : KS G A U H) : va_Z "java/lang/StringUTF16" "HI_BYTE_SHIFT" "I" (.int (nI 0)) A U H := h.zs q764 (lw_all_tbl q96) (by decide +kernel)
theorem KS.zLO {G : GG} {A : Nat → Prop} {U : State} {H : Heap} (h : KS G A U H) : va_Z "java/lang/StringUTF16" "LO_BYTE_SHIFT" "I" (.int (nI 8)) A U H := h.zs q766 (lw_all_tbl q96) (by decide +kernel)
theorem KS.zHG {G : GG} {A : Nat → Prop} {U : State} {H : Heap} (h : KS G A U H) : va_Z "java/lang/Integer$IntegerCache" "high" "I" (.int (nI 127)) A U H := h.zs q548 (lw_all_tbl q115) (by decide +kernel)
theorem KS.zSF {G : GG} {A : Nat → Prop} {U : State} {H : Heap} (h : KS G A U H) : ∃ o : Option Nat, va_Z "jdk/internal/util/Preconditions" "SIOOBE_FORMATTER" "Ljava/util/function/BiFunction;" (va_rf o) A U H := h.zo q754 (lw_all_tbl q119) (by decide +kernel)
theorem sel_up {C : String} {y : MethodName} {s : State} {args : Array Value} {n : Nat} (hy : y.cls ≠ "java/lang/invoke/MethodHandle" ∧ y.cls ≠ "java/lang/invoke/VarHandle")
    (hins : (Cond.instantiable C n).before args s = true) (hpriv : (Cond.privateMethod y).before args s = true) (hinst : (Cond.instanceMethod y).before args s = true) (hsame : (Cond.sameMethod y.cls y.cls y.name y.desc).before args s = true) : (Cond.selects C y y).before args s = true := by
  obtain ⟨c, k, hc, hk, -, -, -, -⟩ := Cond.instantiable_spec hins
  obtain ⟨mk, methM, hnamed, hmethM, -, -⟩ := Cond.instanceMethod_spec hinst
  have hfound : s.methodFound? y.cls y.name y.desc = some mk := State.methodFound?_of_named hnamed hy
  have hsel : selectMethod {} s.vm c mk = .method mk := selectMethod_private hmethM (Cond.privateMethod_at hpriv mk methM hnamed hmethM)
  have hcls : s.vm.findClass y.cls = some mk.cls := by
    have h := hnamed
    unfold State.methodNamed? at h
    cases h1 : s.vm.findClass y.cls with
    | none => rw [h1] at h; cases h
    | some d =>
      rw [h1] at h
      simp only [Option.bind_eq_bind, Option.bind_some] at h
      cases h2 : s.vm.classes[d]? with
      | none => rw [h2] at h; cases h
      | some k2 =>
        rw [h2] at h
        simp only [Option.bind_some] at h
        cases h3 : k2.findMethod y.name y.desc with
        | none => rw [h3] at h; cases h
        | some i => rw [h3] at h; cases h; rfl
  obtain ⟨-, k2, hk2, hni⟩ := Cond.sameMethod_spec hcls hfound hsame
  simp only [Cond.before, Cond.holds, Cond.value, hc, hfound, hnamed, hsel, hk2]
  simp [hni]
theorem KS.selP {G : GG} {A : Nat → Prop} {U : State} {H : Heap} (h : KS G A U H) {C : String} {y : MethodName} {n : Nat} {args : Array Value} (hy : y.cls ≠ "java/lang/invoke/MethodHandle" ∧ y.cls ≠ "java/lang/invoke/VarHandle") (h1 : Cond.instantiable C n ∈ lw_tbl) (h2 : Cond.privateMethod y ∈ lw_tbl) (h3 : Cond.instanceMethod y ∈ lw_tbl) (h4 : Cond.sameMethod y.cls y.cls y.name y.desc ∈ lw_tbl) : (Cond.selects C y y).before args U = true :=
  word_at h.2.2.1 (good_of_word rfl) (sel_up hy (h.1 _ h1) (h.1 _ h2) (h.1 _ h3) (h.1 _ h4))
section CALLSU
variable {p : Program} {l : Launch} {e : Env} {R : Room} {s : State} {m : MethodId} {args : Array Value} {below : List Frame} {meth : Method} {c : Code} {H : Heap} {locs : List Loc} {cells slots : Nat} {Q : State → Prop} {G : GG} {A : Nat → Prop} {cc bytes : ByteArray} {pc : Nat} {ls : Array Slot} {own : String} {index nL maxL n : Nat} {y : MethodName} {ret : Option FieldType} {rm : Room} {As rest st0 : List Value} {b : Nat} {ws wc wr : va_W}
theorem callSUi {q : vw_C} {S : Type} {post : Int32 → S → Prop} {ws1 : S → va_W} (C9 : CallFix p m c cc nL s args lw_all own) (hM : MM l G y bytes maxL ret rm (.ref b :: As) wc (Qi_ G post ws1)) (cw : va_CS R s args own index y bytes maxL ret (ws_ y bytes maxL ret) rm rm.cells rm.slots n) (hK : va_K G.1 CL (TYS G) s) (hZ : KS G A s s.heap) (hA : ∀ q : Nat, s.heap.size ≤ q → A q) (hP : va_P G.1 CL ws H) (hD : va_D A ws) (hS : va_S A s.heap H locs) (isC isR : List Nat) (hC : isC.map (fun i => ws[i]?) = wc.map some) (hR : isR.map (fun i => ws[i]?) = wr.map some) (hnc : va_nd isC = true) (hnr : va_nd isR = true) (hdis : ∀ i ∈ isR, i ∉ isC) (q0 ci : Nat) {fs : List Value} (hc : CL[ci]? = some q) (he : wc[q0]? = some (b, .inr (ci, fs))) (hn : As.length = n) (hsz : ls.size = nL) (hrest : (rest.map fun v => v.category).sum ≤ 8) (hf : cells + rm.cells ≤ R.cells ∧ slots + rm.slots ≤ R.slots) (hst : st0 = As.reverse ++ .ref b :: rest) (hd : decode cc pc = .ok (.invokespecial index, 3))
    (kk : ∀ (r : Int32) (u : S) (H1 : Heap) (locs1 : List Loc), post r u → va_P G.1 CL (wr ++ ws1 u) H1 → va_D A (wr ++ ws1 u) → va_S A s.heap H1 locs1 → W p l e R s m args below meth c H1 locs1 (cells + rm.cells) (slots + rm.slots) Q (F0 m (pc + 3) ls (.int r :: rest))) : W p l e R s m args below meth c H locs cells slots Q (F0 m pc ls st0) := by
  have hF := free_of hA hD hS isC hC
  have hPc := cut_P hP isC hC
  have hDc := hD.sub isC hnc hC
  refine va_calli (va_runSU (rest := rest) (hK.1 ci q hc).2 C9 (hM H.size) cw (pre_V hK hZ hS hPc hDc hF hc he) rfl hn hsz hst (lv_room hrest) hd hf) hS (fun q _ h => hF q h) hF (fun r u t H1 locs1 ht hvm hw hB hz1 hk1 hS1 => ?_)
  obtain ⟨hP1, hD1⟩ := hB
  rw [ht] at hP1
  obtain ⟨hP2, hD2⟩ := va_join (wr := wr) hP hD isC isR hC hR hnr hdis hk1 hF hP1 hD1
  exact kk r u H1 locs1 hw hP2 hD2 hS1
theorem callSUv {q : vw_C} {S : Type} {post : S → Prop} {ws1 : S → va_W} (C9 : CallFix p m c cc nL s args lw_all own) (hM : MM l G y bytes maxL ret rm (.ref b :: As) wc (Qv_ G post ws1)) (cw : va_CS R s args own index y bytes maxL ret (ws_ y bytes maxL ret) rm rm.cells rm.slots n) (hK : va_K G.1 CL (TYS G) s) (hZ : KS G A s s.heap) (hA : ∀ q : Nat, s.heap.size ≤ q → A q) (hP : va_P G.1 CL ws H) (hD : va_D A ws) (hS : va_S A s.heap H locs) (isC isR : List Nat) (hC : isC.map (fun i => ws[i]?) = wc.map some) (hR : isR.map (fun i => ws[i]?) = wr.map some) (hnc : va_nd isC = true) (hnr : va_nd isR = true) (hdis : ∀ i ∈ isR, i ∉ isC) (q0 ci : Nat) {fs : List Value} (hc : CL[ci]? = some q) (he : wc[q0]? = some (b, .inr (ci, fs))) (hn : As.length = n) (hsz : ls.size = nL) (hrest : (rest.map fun v => v.category).sum ≤ 8) (hf : cells + rm.cells ≤ R.cells ∧ slots + rm.slots ≤ R.slots) (hst : st0 = As.reverse ++ .ref b :: rest) (hd : decode cc pc = .ok (.invokespecial index, 3))
    (kk : ∀ (u : S) (H1 : Heap) (locs1 : List Loc), post u → va_P G.1 CL (wr ++ ws1 u) H1 → va_D A (wr ++ ws1 u) → va_S A s.heap H1 locs1 → W p l e R s m args below meth c H1 locs1 (cells + rm.cells) (slots + rm.slots) Q (F0 m (pc + 3) ls rest)) : W p l e R s m args below meth c H locs cells slots Q (F0 m pc ls st0) := by
  have hF := free_of hA hD hS isC hC
  have hPc := cut_P hP isC hC
  have hDc := hD.sub isC hnc hC
  refine va_callv (va_runSU (rest := rest) (hK.1 ci q hc).2 C9 (hM H.size) cw (pre_V hK hZ hS hPc hDc hF hc he) rfl hn hsz hst (lv_room hrest) hd hf) hS (fun q _ h => hF q h) hF (fun u t H1 locs1 ht hvm hw hB hz1 hk1 hS1 => ?_)
  obtain ⟨hP1, hD1⟩ := hB
  rw [ht] at hP1
  obtain ⟨hP2, hD2⟩ := va_join (wr := wr) hP hD isC isR hC hR hnr hdis hk1 hF hP1 hD1
  exact kk u H1 locs1 hw hP2 hD2 hS1
theorem callSUr {q : vw_C} {S : Type} {post : Nat → S → Prop} {ws1 : Nat → S → va_W} (C9 : CallFix p m c cc nL s args lw_all own) (hM : MM l G y bytes maxL ret rm (.ref b :: As) wc (Qr_ G post ws1)) (cw : va_CS R s args own index y bytes maxL ret (ws_ y bytes maxL ret) rm rm.cells rm.slots n) (hK : va_K G.1 CL (TYS G) s) (hZ : KS G A s s.heap) (hA : ∀ q : Nat, s.heap.size ≤ q → A q) (hP : va_P G.1 CL ws H) (hD : va_D A ws) (hS : va_S A s.heap H locs) (isC isR : List Nat) (hC : isC.map (fun i => ws[i]?) = wc.map some) (hR : isR.map (fun i => ws[i]?) = wr.map some) (hnc : va_nd isC = true) (hnr : va_nd isR = true) (hdis : ∀ i ∈ isR, i ∉ isC) (q0 ci : Nat) {fs : List Value} (hc : CL[ci]? = some q) (he : wc[q0]? = some (b, .inr (ci, fs))) (hn : As.length = n) (hsz : ls.size = nL) (hrest : (rest.map fun v => v.category).sum ≤ 8) (hf : cells + rm.cells ≤ R.cells ∧ slots + rm.slots ≤ R.slots) (hst : st0 = As.reverse ++ .ref b :: rest) (hd : decode cc pc = .ok (.invokespecial index, 3))
    (kk : ∀ (r : Nat) (u : S) (H1 : Heap) (locs1 : List Loc), post r u → va_P G.1 CL (wr ++ ws1 r u) H1 → va_D A (wr ++ ws1 r u) → va_S A s.heap H1 locs1 → W p l e R s m args below meth c H1 locs1 (cells + rm.cells) (slots + rm.slots) Q (F0 m (pc + 3) ls (.ref r :: rest))) : W p l e R s m args below meth c H locs cells slots Q (F0 m pc ls st0) := by
  have hF := free_of hA hD hS isC hC
  have hPc := cut_P hP isC hC
  have hDc := hD.sub isC hnc hC
  refine va_callr (va_runSU (rest := rest) (hK.1 ci q hc).2 C9 (hM H.size) cw (pre_V hK hZ hS hPc hDc hF hc he) rfl hn hsz hst (lv_room hrest) hd hf) hS (fun q _ h => hF q h) hF (fun u r t H1 locs1 ht hvm hw hB hz1 hk1 hS1 => ?_)
  obtain ⟨hw9, hB⟩ := hB
  obtain ⟨hP1, hD1⟩ := hB
  rw [ht] at hP1
  obtain ⟨hP2, hD2⟩ := va_join (wr := wr) hP hD isC isR hC hR hnr hdis hk1 hF hP1 hD1
  exact kk r u H1 locs1 hw9 hP2 hD2 hS1
end CALLSU
theorem lw_SU {own : String} {idx : Nat} {y : MethodName} {b : ByteArray} {L : Nat} {r : Option FieldType} (h1 : Cond.methodLink own idx y ∈ lw_all) (h2 : Cond.sameMethod y.cls y.cls y.name y.desc ∈ lw_all) (h3 : Cond.superclass own y.cls ∈ lw_all) (h4 : Cond.instanceMethod y ∈ lw_all) (h5 : Cond.initialized y.cls ∈ lw_all) (h6 : Cond.code y b L r ∈ lw_all) : GoodIn lw_all (va_wsSU own idx y (ws_ y b L r)) := by
  refine lw_app ?_ (lw_meth h6)
  intro w hw
  simp only [List.mem_cons, List.not_mem_nil, or_false] at hw
  rcases hw with rfl | rfl | rfl | rfl | rfl
  · exact h1
  · exact h2
  · exact h3
  · exact h4
  · exact h5
abbrev BAW (G : GG) (h n : Nat) (B : Nat → Nat) : va_W := [(h, .inl (G.2.1 1, n, .inl (bB B)))]
/-- a StringBuilder: its bytes at v, of cap places, f what they hold; two a char or one; n chars -/
abbrev SBW (G : GG) (h v cap : Nat) (cd ml : Bool) (n : Nat) (f : Nat → Nat) : va_W := [(h, .inr (9, [.ref v, .int (bI cd), .int (bI ml), .int (nI n)])), (v, .inl (G.2.1 1, cap, .inl (bB f)))]
