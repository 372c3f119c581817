/-! ===== base 2: arrays said anew, made, copied; Math ===== -/
theorem arrV_congr {cA : ClassId} {n : Nat} {f g : Nat → Value} (h : ∀ j, j < n → f j = g j) : arrV cA n f = arrV cA n g := by
  unfold arrV
  congr 1
  apply Array.ext
  · simp
  · intro i h1 h2
    simp only [Array.getElem_ofFn]
    exact h i (by simpa using h1)
theorem say_i {D : va_G} {cl : List vw_C} {A : Nat → Prop} {ws : va_W} {H : Heap} {a : Nat} {cA : ClassId} {n : Nat} {f : Nat → Int32} (g : Nat → Int32) (hP : va_P D cl ws H) (hD : va_D A ws) (k : Nat) (hk : ws[k]? = some (a, .inl (cA, n, .inl f))) (h : ∀ j, j < n → f j = g j) : va_P D cl (ws.set k (a, .inl (cA, n, .inl g))) H ∧ va_D A (ws.set k (a, .inl (cA, n, .inl g))) := by
  refine ⟨hP.set hD hk ?_ (fun _ _ => rfl), hD.set hk⟩
  show H[a]? = some (vp_cell cA (n, .inl g))
  have h1 : H[a]? = some (vp_cell cA (n, .inl f)) := hP k _ hk
  rw [h1, vp_cell_i, vp_cell_i, arrV_congr (fun j hj => by rw [h j hj])]
theorem say_n {D : va_G} {cl : List vw_C} {A : Nat → Prop} {ws : va_W} {H : Heap} {a : Nat} {cA : ClassId} {n : Nat} {L : Nat → Nat} (M : Nat → Nat) (hP : va_P D cl ws H) (hD : va_D A ws) (k : Nat) (hk : ws[k]? = some (a, .inl (cA, n, .inl (nA L)))) (h : ∀ j, j < n → L j = M j) : va_P D cl (ws.set k (a, .inl (cA, n, .inl (nA M)))) H ∧ va_D A (ws.set k (a, .inl (cA, n, .inl (nA M)))) := say_i _ hP hD k hk (fun j hj => by unfold nA; rw [h j hj])
theorem say_b {D : va_G} {cl : List vw_C} {A : Nat → Prop} {ws : va_W} {H : Heap} {a : Nat} {cA : ClassId} {n : Nat} {L : Nat → Bool} (M : Nat → Bool) (hP : va_P D cl ws H) (hD : va_D A ws) (k : Nat) (hk : ws[k]? = some (a, .inl (cA, n, .inl (bA L)))) (h : ∀ j, j < n → L j = M j) : va_P D cl (ws.set k (a, .inl (cA, n, .inl (bA M)))) H ∧ va_D A (ws.set k (a, .inl (cA, n, .inl (bA M)))) := say_i _ hP hD k hk (fun j hj => by unfold bA; rw [h j hj])
section ARR2
variable {p : Program} {l : Launch} {e : Env} {R : Room} {s : State} {m : MethodId} {args : Array Value} {below : List Frame} {meth : Method} {c : Code} {H : Heap} {locs : List Loc} {cells slots : Nat} {Q : State → Prop} {cc : ByteArray} {pc : Nat} {ls : Array Slot} {rest : List Value} {D : va_G} {cl : List vw_C} {tys : List (ClassId × FieldType)} {ws : va_W} {A : Nat → Prop} {H0 : Heap} {a a0 : Nat} {cA : ClassId}
theorem nw_char (hx : p.tables.exec = Jvm.exec) (hb : c.code = cc) (harr : (Cond.arrayClass .char).before args s = true) (hK : va_K D cl tys s) (hP : va_P D cl ws H) (hD : va_D A ws) (hS : va_S A H0 H locs) (hA : ∀ q, H0.size ≤ q → A q) (t0 : Nat) (ht : tys[t0]? = some (cA, .char)) {n : Nat} (hn : n < 65536) (hc : cells + 1 ≤ R.cells) (hs : slots + n ≤ R.slots) (hd : decode cc pc = .ok (.newarray .char, 2))
    (kk : ∀ (q : Nat) (H1 : Heap), va_P D cl (ws ++ [(q, .inl (cA, n, .inl (nA fun _ => 0)))]) H1 → va_D A (ws ++ [(q, .inl (cA, n, .inl (nA fun _ => 0)))]) → va_S A H0 H1 locs → W p l e R s m args below meth c H1 locs (cells + 1) (slots + n) Q (F0 m (pc + 2) ls (.ref q :: rest))) : W p l e R s m args below meth c H locs cells slots Q (F0 m pc ls (.int (nI n) :: rest)) := by
  refine va_newa (atype := .char) (ty := .char) (a0 := (n, .inl (nA fun _ => 0))) hx hb harr rfl hK hP hD hS hA (fun _ => rfl) (nI_pos (by omega)) (nI_clamp (by omega)) (by show n * 2 ≤ 536870912; omega) hc hs hd (fun q cB H1 hK1 hP1 hD1 hS1 => ?_)
  have h1 : s.vm.findClass ("[" ++ (FieldType.char).toString) = some cB := (hK1.2 tys.length (cB, .char) (by simp)).2
  have h2 : s.vm.findClass ("[" ++ (FieldType.char).toString) = some cA := (hK.2 t0 _ ht).2
  have e : cB = cA := Option.some.inj (h1.symm.trans h2)
  subst e
  exact kk q H1 hP1 hD1 hS1
theorem nw_bool (hx : p.tables.exec = Jvm.exec) (hb : c.code = cc) (harr : (Cond.arrayClass .boolean).before args s = true) (hK : va_K D cl tys s) (hP : va_P D cl ws H) (hD : va_D A ws) (hS : va_S A H0 H locs) (hA : ∀ q, H0.size ≤ q → A q) (t0 : Nat) (ht : tys[t0]? = some (cA, .boolean)) {n : Nat} (hn : n < 65536) (hc : cells + 1 ≤ R.cells) (hs : slots + n ≤ R.slots) (hd : decode cc pc = .ok (.newarray .boolean, 2))
    (kk : ∀ (q : Nat) (H1 : Heap), va_P D cl (ws ++ [(q, .inl (cA, n, .inl (bA fun _ => false)))]) H1 → va_D A (ws ++ [(q, .inl (cA, n, .inl (bA fun _ => false)))]) → va_S A H0 H1 locs → W p l e R s m args below meth c H1 locs (cells + 1) (slots + n) Q (F0 m (pc + 2) ls (.ref q :: rest))) : W p l e R s m args below meth c H locs cells slots Q (F0 m pc ls (.int (nI n) :: rest)) := by
  refine va_newa (atype := .boolean) (ty := .boolean) (a0 := (n, .inl (bA fun _ => false))) hx hb harr rfl hK hP hD hS hA (fun _ => rfl) (nI_pos (by omega)) (nI_clamp (by omega)) (by show n * 1 ≤ 536870912; omega) hc hs hd (fun q cB H1 hK1 hP1 hD1 hS1 => ?_)
  have h1 : s.vm.findClass ("[" ++ (FieldType.boolean).toString) = some cB := (hK1.2 tys.length (cB, .boolean) (by simp)).2
  have h2 : s.vm.findClass ("[" ++ (FieldType.boolean).toString) = some cA := (hK.2 t0 _ ht).2
  have e : cB = cA := Option.some.inj (h1.symm.trans h2)
  subst e
  exact kk q H1 hP1 hD1 hS1
theorem nw_int (hx : p.tables.exec = Jvm.exec) (hb : c.code = cc) (harr : (Cond.arrayClass .int).before args s = true) (hK : va_K D cl tys s) (hP : va_P D cl ws H) (hD : va_D A ws) (hS : va_S A H0 H locs) (hA : ∀ q, H0.size ≤ q → A q) (t0 : Nat) (ht : tys[t0]? = some (cA, .int)) {n : Nat} (hn : n < 65536) (hc : cells + 1 ≤ R.cells) (hs : slots + n ≤ R.slots) (hd : decode cc pc = .ok (.newarray .int, 2))
    (kk : ∀ (q : Nat) (H1 : Heap), va_P D cl (ws ++ [(q, .inl (cA, n, .inl (nA fun _ => 0)))]) H1 → va_D A (ws ++ [(q, .inl (cA, n, .inl (nA fun _ => 0)))]) → va_S A H0 H1 locs → W p l e R s m args below meth c H1 locs (cells + 1) (slots + n) Q (F0 m (pc + 2) ls (.ref q :: rest))) : W p l e R s m args below meth c H locs cells slots Q (F0 m pc ls (.int (nI n) :: rest)) := by
  refine va_newa (atype := .int) (ty := .int) (a0 := (n, .inl (nA fun _ => 0))) hx hb harr rfl hK hP hD hS hA (fun _ => rfl) (nI_pos (by omega)) (nI_clamp (by omega)) (by show n * 4 ≤ 536870912; omega) hc hs hd (fun q cB H1 hK1 hP1 hD1 hS1 => ?_)
  have h1 : s.vm.findClass ("[" ++ (FieldType.int).toString) = some cB := (hK1.2 tys.length (cB, .int) (by simp)).2
  have h2 : s.vm.findClass ("[" ++ (FieldType.int).toString) = some cA := (hK.2 t0 _ ht).2
  have e : cB = cA := Option.some.inj (h1.symm.trans h2)
  subst e
  exact kk q H1 hP1 hD1 hS1
theorem nw_byte (hx : p.tables.exec = Jvm.exec) (hb : c.code = cc) (harr : (Cond.arrayClass .byte).before args s = true) (hK : va_K D cl tys s) (hP : va_P D cl ws H) (hD : va_D A ws) (hS : va_S A H0 H locs) (hA : ∀ q, H0.size ≤ q → A q) (t0 : Nat) (ht : tys[t0]? = some (cA, .byte)) {n : Nat} (hn : n < 65536) (hc : cells + 1 ≤ R.cells) (hs : slots + n ≤ R.slots) (hd : decode cc pc = .ok (.newarray .byte, 2))
    (kk : ∀ (q : Nat) (H1 : Heap), va_P D cl (ws ++ [(q, .inl (cA, n, .inl (fun _ => 0)))]) H1 → va_D A (ws ++ [(q, .inl (cA, n, .inl (fun _ => 0)))]) → va_S A H0 H1 locs → W p l e R s m args below meth c H1 locs (cells + 1) (slots + n) Q (F0 m (pc + 2) ls (.ref q :: rest))) : W p l e R s m args below meth c H locs cells slots Q (F0 m pc ls (.int (nI n) :: rest)) := by
  refine va_newa (atype := .byte) (ty := .byte) (a0 := (n, .inl (fun _ => 0))) hx hb harr rfl hK hP hD hS hA (fun _ => rfl) (nI_pos (by omega)) (nI_clamp (by omega)) (by show n * 1 ≤ 536870912; omega) hc hs hd (fun q cB H1 hK1 hP1 hD1 hS1 => ?_)
  have h1 : s.vm.findClass ("[" ++ (FieldType.byte).toString) = some cB := (hK1.2 tys.length (cB, .byte) (by simp)).2
  have h2 : s.vm.findClass ("[" ++ (FieldType.byte).toString) = some cA := (hK.2 t0 _ ht).2
  have e : cB = cA := Option.some.inj (h1.symm.trans h2)
  subst e
  exact kk q H1 hP1 hD1 hS1
theorem nw_long (hx : p.tables.exec = Jvm.exec) (hb : c.code = cc) (harr : (Cond.arrayClass .long).before args s = true) (hK : va_K D cl tys s) (hP : va_P D cl ws H) (hD : va_D A ws) (hS : va_S A H0 H locs) (hA : ∀ q, H0.size ≤ q → A q) (t0 : Nat) (ht : tys[t0]? = some (cA, .long)) {n : Nat} (hn : n < 65536) (hc : cells + 1 ≤ R.cells) (hs : slots + n ≤ R.slots) (hd : decode cc pc = .ok (.newarray .long, 2))
    (kk : ∀ (q : Nat) (H1 : Heap), va_P D cl (ws ++ [(q, .inl (cA, n, .inr (.inl fun _ => 0)))]) H1 → va_D A (ws ++ [(q, .inl (cA, n, .inr (.inl fun _ => 0)))]) → va_S A H0 H1 locs → W p l e R s m args below meth c H1 locs (cells + 1) (slots + n) Q (F0 m (pc + 2) ls (.ref q :: rest))) : W p l e R s m args below meth c H locs cells slots Q (F0 m pc ls (.int (nI n) :: rest)) := by
  refine va_newa (atype := .long) (ty := .long) (a0 := (n, .inr (.inl fun _ => 0))) hx hb harr rfl hK hP hD hS hA (fun _ => rfl) (nI_pos (by omega)) (nI_clamp (by omega)) (by show n * 8 ≤ 536870912; omega) hc hs hd (fun q cB H1 hK1 hP1 hD1 hS1 => ?_)
  have h1 : s.vm.findClass ("[" ++ (FieldType.long).toString) = some cB := (hK1.2 tys.length (cB, .long) (by simp)).2
  have h2 : s.vm.findClass ("[" ++ (FieldType.long).toString) = some cA := (hK.2 t0 _ ht).2
  have e : cB = cA := Option.some.inj (h1.symm.trans h2)
  subst e
  exact kk q H1 hP1 hD1 hS1
theorem nw_double (hx : p.tables.exec = Jvm.exec) (hb : c.code = cc) (harr : (Cond.arrayClass .double).before args s = true) (hK : va_K D cl tys s) (hP : va_P D cl ws H) (hD : va_D A ws) (hS : va_S A H0 H locs) (hA : ∀ q, H0.size ≤ q → A q) (t0 : Nat) (ht : tys[t0]? = some (cA, .double)) {n : Nat} (hn : n < 65536) (hc : cells + 1 ≤ R.cells) (hs : slots + n ≤ R.slots) (hd : decode cc pc = .ok (.newarray .double, 2))
    (kk : ∀ (q : Nat) (H1 : Heap), va_P D cl (ws ++ [(q, .inl (cA, n, .inr (.inr (.inr (.inl fun _ => 0)))))]) H1 → va_D A (ws ++ [(q, .inl (cA, n, .inr (.inr (.inr (.inl fun _ => 0)))))]) → va_S A H0 H1 locs → W p l e R s m args below meth c H1 locs (cells + 1) (slots + n) Q (F0 m (pc + 2) ls (.ref q :: rest))) : W p l e R s m args below meth c H locs cells slots Q (F0 m pc ls (.int (nI n) :: rest)) := by
  refine va_newa (atype := .double) (ty := .double) (a0 := (n, .inr (.inr (.inr (.inl fun _ => 0))))) hx hb harr rfl hK hP hD hS hA (fun _ => rfl) (nI_pos (by omega)) (nI_clamp (by omega)) (by show n * 8 ≤ 536870912; omega) hc hs hd (fun q cB H1 hK1 hP1 hD1 hS1 => ?_)
  have h1 : s.vm.findClass ("[" ++ (FieldType.double).toString) = some cB := (hK1.2 tys.length (cB, .double) (by simp)).2
  have h2 : s.vm.findClass ("[" ++ (FieldType.double).toString) = some cA := (hK.2 t0 _ ht).2
  have e : cB = cA := Option.some.inj (h1.symm.trans h2)
  subst e
  exact kk q H1 hP1 hD1 hS1
theorem cp_c (hx : p.tables.exec = Jvm.exec) (hb : c.code = cc) (hml : c.maxLocals = ls.size) {own : String} {index : Nat} (hown : s.vm.findClass own = some m.cls) (hlink : (Cond.methodLink own index arraycopyName).before args s = true) (hnat : (Cond.native arraycopyName).before args s = true) (hstat : (Cond.static arraycopyName).before args s = true) (hini : (Cond.initialized "java/lang/System").before args s = true) (hK : va_K D cl tys s) (hP : va_P D cl ws H) (hD : va_D A ws) (hS : va_S A H0 H locs) (q0 q1 t0 : Nat) {c0 : ClassId} {n0 n1 : Nat} {f g : Nat → Nat} (ha0 : ws[q0]? = some (a0, .inl (c0, n0, .inl (nA f)))) (ha1 : ws[q1]? = some (a, .inl (c0, n1, .inl (nA g)))) (ht0 : tys[t0]? = some (c0, .char)) {sp dp n : Nat} (h4 : sp + n ≤ n0) (h5 : dp + n ≤ n1) (hb0 : n0 < 65536) (hb1 : n1 < 65536) (hf : ∀ i, i < n → f (sp + i) < 65536) (hframes : 1 ≤ R.frames) (hlocals : (rest.map fun v => v.category).sum + (nativeFrameWords "java/lang/System" "arraycopy" 5 + 11) ≤ R.locals) (hd : decode cc pc = .ok (.invokestatic index, 3))
    (kk : ∀ (H1 : Heap) (locs1 : List Loc), va_P D cl (ws.set q1 (a, .inl (c0, n1, .inl (nA (va_cpy f g sp dp n))))) H1 → va_D A (ws.set q1 (a, .inl (c0, n1, .inl (nA (va_cpy f g sp dp n))))) → va_S A H0 H1 locs1 → W p l e R s m args below meth c H1 locs1 cells slots Q (F0 m (pc + 3) ls rest)) : W p l e R s m args below meth c H locs cells slots Q (F0 m pc ls (.int (nI n) :: .int (nI dp) :: .ref a :: .int (nI sp) :: .ref a0 :: rest)) := by
  have e1 : (nI sp).toNatClampNeg = sp := nI_clamp (by omega)
  have e2 : (nI dp).toNatClampNeg = dp := nI_clamp (by omega)
  have e3 : (nI n).toNatClampNeg = n := nI_clamp (by omega)
  refine va_copyi hx hb hml hown hlink hnat hstat hini hK hP hD hS q0 q1 t0 t0 ha0 ha1 ht0 ht0 rfl (nI_pos (by omega)) (nI_pos (by omega)) (nI_pos (by omega)) (by rw [e1, e3]; exact h4) (by rw [e2, e3]; exact h5) (fun i hi => by rw [e3] at hi; rw [e1]; exact (pk_charN (hf i hi)).2) hframes hlocals hd ?_
  rw [e1, e2, e3, nA_cpy]
  exact kk
theorem cp_z (hx : p.tables.exec = Jvm.exec) (hb : c.code = cc) (hml : c.maxLocals = ls.size) {own : String} {index : Nat} (hown : s.vm.findClass own = some m.cls) (hlink : (Cond.methodLink own index arraycopyName).before args s = true) (hnat : (Cond.native arraycopyName).before args s = true) (hstat : (Cond.static arraycopyName).before args s = true) (hini : (Cond.initialized "java/lang/System").before args s = true) (hK : va_K D cl tys s) (hP : va_P D cl ws H) (hD : va_D A ws) (hS : va_S A H0 H locs) (q0 q1 t0 : Nat) {c0 : ClassId} {n0 n1 : Nat} {f g : Nat → Bool} (ha0 : ws[q0]? = some (a0, .inl (c0, n0, .inl (bA f)))) (ha1 : ws[q1]? = some (a, .inl (c0, n1, .inl (bA g)))) (ht0 : tys[t0]? = some (c0, .boolean)) {sp dp n : Nat} (h4 : sp + n ≤ n0) (h5 : dp + n ≤ n1) (hb0 : n0 < 65536) (hb1 : n1 < 65536)  (hframes : 1 ≤ R.frames) (hlocals : (rest.map fun v => v.category).sum + (nativeFrameWords "java/lang/System" "arraycopy" 5 + 11) ≤ R.locals) (hd : decode cc pc = .ok (.invokestatic index, 3))
    (kk : ∀ (H1 : Heap) (locs1 : List Loc), va_P D cl (ws.set q1 (a, .inl (c0, n1, .inl (bA (va_cpy f g sp dp n))))) H1 → va_D A (ws.set q1 (a, .inl (c0, n1, .inl (bA (va_cpy f g sp dp n))))) → va_S A H0 H1 locs1 → W p l e R s m args below meth c H1 locs1 cells slots Q (F0 m (pc + 3) ls rest)) : W p l e R s m args below meth c H locs cells slots Q (F0 m pc ls (.int (nI n) :: .int (nI dp) :: .ref a :: .int (nI sp) :: .ref a0 :: rest)) := by
  have e1 : (nI sp).toNatClampNeg = sp := nI_clamp (by omega)
  have e2 : (nI dp).toNatClampNeg = dp := nI_clamp (by omega)
  have e3 : (nI n).toNatClampNeg = n := nI_clamp (by omega)
  refine va_copyi hx hb hml hown hlink hnat hstat hini hK hP hD hS q0 q1 t0 t0 ha0 ha1 ht0 ht0 rfl (nI_pos (by omega)) (nI_pos (by omega)) (nI_pos (by omega)) (by rw [e1, e3]; exact h4) (by rw [e2, e3]; exact h5) (fun i hi => by rw [e3] at hi; rw [e1]; exact (by unfold bA; cases f (sp + i) <;> decide)) hframes hlocals hd ?_
  rw [e1, e2, e3, bA_cpy]
  exact kk
theorem n_mmin (hx : p.tables.exec = Jvm.exec) (hb : c.code = cc) (hml : c.maxLocals = ls.size) {own : String} {index : Nat} (hown : s.vm.findClass own = some m.cls) (hlink : (Cond.methodLink own index Lib.Math.min.name).before args s = true) (hstat : (Cond.static Lib.Math.min.name).before args s = true) (hini : (Cond.initialized "java/lang/Math").before args s = true) (hcode : (Cond.code Lib.Math.min.name Lib.Math.min.code 2 (some .int)).before args s = true) (hframes : 1 ≤ R.frames) (hlocals : (rest.map fun v => v.category).sum + 13 ≤ R.locals) (hc : cells ≤ R.cells) (hs : slots ≤ R.slots) {x y : Nat} (h1 : x < 2147483648) (h2 : y < 2147483648) (hd : decode cc pc = .ok (.invokestatic index, 3))
    (kk : W p l e R s m args below meth c H locs cells slots Q (F0 m (pc + 3) ls (.int (nI (min x y)) :: rest))) : W p l e R s m args below meth c H locs cells slots Q (F0 m pc ls (.int (nI y) :: .int (nI x) :: rest)) := by
  refine va_mmin hx hb hml hown hlink hstat hini hcode hframes hlocals hc hs hd ?_
  have e : (if nI y < nI x then nI y else nI x) = nI (min x y) := by
    by_cases h : y < x
    · rw [if_pos ((nI_ltI h2 h1).mpr h), Nat.min_eq_right (by omega)]
    · rw [if_neg (fun z => h ((nI_ltI h2 h1).mp z)), Nat.min_eq_left (by omega)]
  rw [e]
  exact kk
theorem n_mabs (hx : p.tables.exec = Jvm.exec) (hb : c.code = cc) (hml : c.maxLocals = ls.size) {own : String} {index : Nat} (hown : s.vm.findClass own = some m.cls) (hlink : (Cond.methodLink own index Lib.Math.abs.name).before args s = true) (hstat : (Cond.static Lib.Math.abs.name).before args s = true) (hini : (Cond.initialized "java/lang/Math").before args s = true) (hcode : (Cond.code Lib.Math.abs.name Lib.Math.abs.code 1 (some .int)).before args s = true) (hframes : 1 ≤ R.frames) (hlocals : (rest.map fun v => v.category).sum + 13 ≤ R.locals) (hc : cells ≤ R.cells) (hs : slots ≤ R.slots) {x y : Nat} (h1 : x < 1073741824) (h2 : y < 1073741824) (hd : decode cc pc = .ok (.invokestatic index, 3))
    (kk : W p l e R s m args below meth c H locs cells slots Q (F0 m (pc + 3) ls (.int (nI (if y ≤ x then x - y else y - x)) :: rest))) : W p l e R s m args below meth c H locs cells slots Q (F0 m pc ls (.int (nI x - nI y) :: rest)) := by
  refine va_mabs hx hb hml hown hlink hstat hini hcode hframes hlocals hc hs hd ?_
  have e : (if 0 ≤ nI x - nI y then nI x - nI y else 0 - (nI x - nI y)) = nI (if y ≤ x then x - y else y - x) := by
    have t := pk_sub_toInt h1 h2
    by_cases h : y ≤ x
    · rw [if_pos (by rw [Int32.le_iff_toInt_le, t]; show (0 : Int) ≤ _; omega), if_pos h, pk_sub h]
    · rw [if_neg (by rw [Int32.le_iff_toInt_le, t]; show ¬ (0 : Int) ≤ _; omega), if_neg h, ← pk_sub (by omega : x ≤ y)]
      generalize nI x = u; generalize nI y = v
      rw [Int32.zero_sub, Int32.neg_sub]
  rw [e]
  exact kk
end ARR2
