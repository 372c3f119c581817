/-! ===== base 7: lambdas ===== -/
theorem arr3 {β : Type} {y : β} (x : Array Nat) (f : Nat → Nat → Nat → Option β) (h : (match x with | #[a, b, c] => f a b c | _ => none) = some y) : ∃ a b c, f a b c = some y := by
  rcases x with ⟨l⟩
  rcases l with _ | ⟨a, _ | ⟨b, _ | ⟨c, _ | ⟨d, l⟩⟩⟩⟩
  · exact absurd (show (none : Option β) = some y from h) (fun z => by cases z)
  · exact absurd (show (none : Option β) = some y from h) (fun z => by cases z)
  · exact absurd (show (none : Option β) = some y from h) (fun z => by cases z)
  · exact ⟨a, b, c, h⟩
  · exact absurd (show (none : Option β) = some y from h) (fun z => by cases z)
theorem shape_site {cf : ClassFile} {idx : Nat} {σ : Lambda.Shape} (h : Lambda.shapeOf? cf idx = some σ) : ∃ b nt, cf.constantPool[idx]? = some (.invokeDynamic b nt) ∧ ∃ name desc, cf.constantPool.nameAndType? nt = some (name, desc) ∧ ∃ sig, parseMethodDescriptor desc = some sig ∧ sig.parameters = σ.captured := by
  unfold Lambda.shapeOf? at h
  split at h
  · rename_i b nt hcp
    refine ⟨b, nt, hcp, ?_⟩
    obtain ⟨en, -, h⟩ := Option.bind_eq_some_iff.mp h
    obtain ⟨bm, -, h⟩ := Option.bind_eq_some_iff.mp h
    split at h
    · obtain ⟨_, -, h⟩ := Option.bind_eq_some_iff.mp h
      obtain ⟨a0, a1, a2, h⟩ := arr3 _ _ h
      split at h
      · split at h
        · split at h
          · obtain ⟨⟨nm, ds⟩, hnt, h⟩ := Option.bind_eq_some_iff.mp h
            obtain ⟨sg, hsg, h⟩ := Option.bind_eq_some_iff.mp h
            refine ⟨nm, ds, hnt, sg, hsg, ?_⟩
            split at h
            · obtain ⟨q, -, h⟩ := Option.bind_eq_some_iff.mp h
              obtain ⟨d0, -, h⟩ := Option.bind_eq_some_iff.mp h
              obtain ⟨d1, -, h⟩ := Option.bind_eq_some_iff.mp h
              obtain ⟨d2, -, h⟩ := Option.bind_eq_some_iff.mp h
              obtain ⟨d3, -, h⟩ := Option.bind_eq_some_iff.mp h
              obtain ⟨d4, -, h⟩ := Option.bind_eq_some_iff.mp h
              cases h
              rfl
            · cases h
          · cases h
        · cases h
      · cases h
    · cases h
  · cases h
def fwS : ByteArray := .mk #[0x2a, 0xb4, 0x00, 0x0f, 0x2b, 0xc0, 0x00, 0x13, 0xb8, 0x00, 0x19, 0xac]
theorem fwS_0 : decode fwS 0 = .ok (.aload_n 0, 1) := by decide +kernel
theorem fwS_1 : decode fwS 1 = .ok (.getfield 15, 3) := by decide +kernel
theorem fwS_4 : decode fwS 4 = .ok (.aload_n 1, 1) := by decide +kernel
theorem fwS_5 : decode fwS 5 = .ok (.checkcast 19, 3) := by decide +kernel
theorem fwS_8 : decode fwS 8 = .ok (.invokestatic 25, 3) := by decide +kernel
theorem fwS_11 : decode fwS 11 = .ok (.ireturn, 1) := by decide +kernel
def fwV : ByteArray := .mk #[0x2a, 0xb4, 0x00, 0x0f, 0x2b, 0xc0, 0x00, 0x13, 0xb6, 0x00, 0x19, 0xac]
theorem fwV_0 : decode fwV 0 = .ok (.aload_n 0, 1) := by decide +kernel
theorem fwV_1 : decode fwV 1 = .ok (.getfield 15, 3) := by decide +kernel
theorem fwV_4 : decode fwV 4 = .ok (.aload_n 1, 1) := by decide +kernel
theorem fwV_5 : decode fwV 5 = .ok (.checkcast 19, 3) := by decide +kernel
theorem fwV_8 : decode fwV 8 = .ok (.invokevirtual 25, 3) := by decide +kernel
theorem fwV_11 : decode fwV 11 = .ok (.ireturn, 1) := by decide +kernel
def sh1 : Lambda.Shape := { iface := "VowelTorus$Test", name := "is", sam := ⟨[.object "java/lang/Object"], some .boolean⟩, captured := [.object "VowelTorus"], kind := 5, implClass := "VowelTorus", implName := "lambda$singing$1", implDesc := ⟨[.object "java/lang/Integer"], some .boolean⟩, implItf := false, inst := ⟨[.object "java/lang/Integer"], some .boolean⟩ }
def sh2 : Lambda.Shape := { iface := "VowelTorus$Test", name := "is", sam := ⟨[.object "java/lang/Object"], some .boolean⟩, captured := [.object "VowelTorus$Puzzle"], kind := 6, implClass := "VowelTorus", implName := "lambda$boardOf$0", implDesc := ⟨[.object "VowelTorus$Puzzle", .object "java/lang/Integer"], some .boolean⟩, implItf := false, inst := ⟨[.object "java/lang/Integer"], some .boolean⟩ }
def sh3 : Lambda.Shape := { iface := "VowelTorus$Measure", name := "of", sam := ⟨[.object "java/lang/Object"], some .int⟩, captured := [.object "VowelTorus"], kind := 5, implClass := "VowelTorus", implName := "lambda$ranked$2", implDesc := ⟨[.object "java/lang/Integer"], some .int⟩, implItf := false, inst := ⟨[.object "java/lang/Integer"], some .int⟩ }
def sh4 : Lambda.Shape := { iface := "VowelTorus$Test", name := "is", sam := ⟨[.object "java/lang/Object"], some .boolean⟩, captured := [.object "VowelTorus$Puzzle"], kind := 6, implClass := "VowelTorus", implName := "lambda$account$3", implDesc := ⟨[.object "VowelTorus$Puzzle", .object "java/lang/Integer"], some .boolean⟩, implItf := false, inst := ⟨[.object "java/lang/Integer"], some .boolean⟩ }
def LD (σ : Lambda.Shape) : ClassFile := (σ.file "VowelTorus").getD { minorVersion := 0, majorVersion := 0, constantPool := #[], accessFlags := 0, thisClass := 0, superClass := 0, interfaces := #[], fields := #[], methods := #[], attributes := #[] }
def LF (σ : Lambda.Shape) : Method := ((layoutMethods (LD σ)).bind (·[1]?)).getD default
def LL (σ : Lambda.Shape) : Array Field × Array FieldType × Array FieldType := (layoutFields (LD σ) 0).getD (#[], #[], #[])
/-- what a shape's class file holds -/
def okSh (σ : Lambda.Shape) (fb : ByteArray) (ct : String) (rt : FieldType) : Prop :=
  (σ.file "VowelTorus").isSome = true ∧ ((layoutMethods (LD σ)).bind (·[1]?)).isSome = true ∧ (layoutFields (LD σ) 0).isSome = true ∧ ((LF σ).code.map fun c => (c.code.data, c.maxLocals)) = some (fb.data, 2) ∧ ((LF σ).accessFlags, (LF σ).sig.returnType) = (0x0001, some rt) ∧
  ((LD σ).constantPool[25]? = some (.methodref 21 24) ∧ (LD σ).constantPool.className? 21 = some "VowelTorus" ∧ (LD σ).constantPool.nameAndType? 24 = some (σ.implName, σ.implDesc.toString)) ∧
  ((LD σ).constantPool[21]? = some (.class_ 20) ∧ (LD σ).constantPool.string? 20 = some "VowelTorus" ∧ 21 ≠ (LD σ).thisClass) ∧ ((LD σ).constantPool[19]? = some (.class_ 18) ∧ (LD σ).constantPool.string? 18 = some "java/lang/Integer" ∧ 19 ≠ (LD σ).thisClass) ∧
  ((LD σ).constantPool[15]? = some (.fieldref 2 14) ∧ ((LD σ).constantPool.nameAndType? 14).map (fun q => q.1) = some "arg$1" ∧ (LL σ).1.findIdx? (·.name == "arg$1") = some 0 ∧ ((LL σ).1[0]?).map (fun f => (f.isStatic, f.slot)) = some (false, 0)) ∧
  (LL σ).2.1 = #[.object ct] ∧ σ.implClass = "VowelTorus" ∧ σ.implItf = false
theorem ok1 : okSh sh1 fwV "VowelTorus" .boolean := by refine ⟨by decide +kernel, by decide +kernel, by decide +kernel, by decide +kernel, by decide +kernel, by decide +kernel, by decide +kernel, by decide +kernel, by decide +kernel, by decide +kernel, rfl, rfl⟩
theorem ok2 : okSh sh2 fwS "VowelTorus$Puzzle" .boolean := by refine ⟨by decide +kernel, by decide +kernel, by decide +kernel, by decide +kernel, by decide +kernel, by decide +kernel, by decide +kernel, by decide +kernel, by decide +kernel, by decide +kernel, rfl, rfl⟩
theorem ok3 : okSh sh3 fwV "VowelTorus" .int := by refine ⟨by decide +kernel, by decide +kernel, by decide +kernel, by decide +kernel, by decide +kernel, by decide +kernel, by decide +kernel, by decide +kernel, by decide +kernel, by decide +kernel, rfl, rfl⟩
theorem ok4 : okSh sh4 fwS "VowelTorus$Puzzle" .boolean := by refine ⟨by decide +kernel, by decide +kernel, by decide +kernel, by decide +kernel, by decide +kernel, by decide +kernel, by decide +kernel, by decide +kernel, by decide +kernel, by decide +kernel, rfl, rfl⟩
theorem lam_facts {σ : Lambda.Shape} {fb : ByteArray} {ct : String} {rt : FieldType} (ok : okSh σ fb ct rt) {vm : Vm} {d c : ClassId} {dk : Class} (hd : vm.classes[d]? = some dk) (hname : dk.name = "VowelTorus") (h : Lambda.isMade { classPath := fun _ => none } vm d σ c = true)
    (hO : ∀ o ok, vm.findClass "java/lang/Object" = some o → vm.classes[o]? = some ok → ok.instanceTypes.size = 0) {jI : ClassId} (hI : vm.findClass "java/lang/Integer" = some jI) :
    ∃ (k tk : Class) (file : ClassFile) (methk : Method) (ck : Code) (toy iface : ClassId) (t found : MethodId) (g0 : Field),
      (vm.classes[c]? = some k ∧ k.name = "VowelTorus$$Lambda" ∧ k.cf = some file ∧ file.constantPool = (LD σ).constantPool ∧ k.instanceTypes = #[.object ct] ∧ k.kind = .ordinary) ∧
      (vm.method? ⟨c, 1⟩ = some methk ∧ methk.code = some ck ∧ ck.code = fb ∧ ck.maxLocals = 2 ∧ methk.locks = false ∧ methk.accessFlags = 0x0001 ∧ methk.sig.returnType = some rt) ∧
      (vm.findClass "VowelTorus" = some toy ∧ vm.classes[toy]? = some tk ∧ tk.isInterface = false ∧ ((methodIn toy σ.implName σ.implDesc.toString tk.isInterface none).ask { classPath := fun _ => none } vm).1 = .ok t) ∧
      (vm.methodReady c 25 t ∧ vm.classReady c 21 toy ∧ vm.classReady c 19 jI ∧ vm.fieldReady c 15 c g0 ∧ g0.isStatic = false ∧ g0.slot = 0) ∧
      (vm.findClass σ.iface = some iface ∧ ((methodIn iface σ.name σ.sam.toString true none).ask { classPath := fun _ => none } vm).1 = .ok found ∧ selectMethod {} vm c found = .method ⟨c, 1⟩) := by
  obtain ⟨o1, o2, o3, o4, o5, o6, o7, o8, o9, o10, o11, o12⟩ := ok
  obtain ⟨dk', k, okc, tk, file, cf, object, iface, toy, lay, methods, target, found, hd', hk, hfile, hcf, hobj, hif, hok, hlay, hms, ht, htk, hg, hfnd, hrec, -, -, -, hitf, hpool, hmeth, hfields, hty, hres, hsel⟩ := Lambda.isMade_spec h
  cases hd.symm.trans hd'
  have hfi : σ.file "VowelTorus" = some (LD σ) := by
    obtain ⟨x, hx⟩ := Option.isSome_iff_exists.mp o1
    simp [LD, hx]
  rw [hname, hfi] at hcf
  cases hcf
  have hl0 : layoutFields (LD σ) 0 = some (LL σ) := by
    obtain ⟨x, hx⟩ := Option.isSome_iff_exists.mp o3
    simp [LL, hx]
  have hok0 : okc.instanceTypes = #[] := Array.eq_empty_of_size_eq_zero (hO object okc hobj hok)
  rw [hO object okc hobj hok, hl0] at hlay
  cases hlay
  have hm1 : methods[1]? = some (LF σ) := by
    obtain ⟨x, hx⟩ := Option.isSome_iff_exists.mp o2
    have hf : LF σ = x := by simp [LF, hx]
    rw [hms] at hx
    rw [hf]
    exact hx
  obtain ⟨b, hb, hsame⟩ := hmeth 1 (LF σ) hm1
  obtain ⟨-, -, hsig, hfl, x, y, hfc, hbc, -, hml, hcode, -⟩ := Lambda.sameMethod_spec hsame
  simp only [Prod.mk.injEq] at o5
  rw [hfc] at o4
  simp only [Option.map_some, Option.some.injEq, Prod.mk.injEq] at o4
  obtain ⟨g0, hg0, hp0⟩ := Option.map_eq_some_iff.mp o9.2.2.2
  simp only [Prod.mk.injEq] at hp0
  obtain ⟨q14, hq14, hn14⟩ := Option.map_eq_some_iff.mp o9.2.1
  rw [o11] at ht
  rw [o12] at hitf
  refine ⟨k, tk, file, b, y, toy, iface, target, found, g0, ⟨hk, by rw [hrec.1, hname]; rfl, hfile, hpool.2.1, by rw [hty.1, hok0, o10]; rfl, hrec.2.1⟩, ⟨by simp [Vm.method?, hk, hb], hbc, by rw [hcode]; exact ByteArray.ext o4.1, by rw [hml]; exact o4.2, ?_, by rw [hfl]; exact o5.1, by rw [hsig]; exact o5.2⟩, ⟨ht, htk, hitf, hg⟩,
    ⟨⟨k, hk, hres 25 _ (Lambda.resolvedOf_method o6.1 o6.2.1 ht htk o6.2.2 hg)⟩, ⟨k, hk, hres 21 _ (Lambda.resolvedOf_class o7.1 o7.2.2 o7.2.1 ht)⟩, ⟨k, hk, hres 19 _ (Lambda.resolvedOf_class o8.1 o8.2.2 o8.2.1 hI)⟩,
      ⟨k, 0, k, hk, hres 15 _ (Lambda.resolvedOf_field o9.1 (desc := q14.2) (by rw [hq14, ← hn14]) o9.2.2.1), hk, hfields 0 _ hg0⟩, hp0.1, hp0.2⟩, ⟨hif, hfnd, hsel⟩⟩
  simp [Method.locks, Method.isSynchronized, hfl, o5.1, hasFlag, Acc.synchronized]
/-- the start's site -/
def LamG (G : GG) (y : MethodName) (pc idx : Nat) (σ : Lambda.Shape) (cK : ClassId) : Prop := G.2.2.1.lambdaAt? y pc idx σ = some (cK, none)
theorem KS.lam {G : GG} {A : Nat → Prop} {U : State} {H : Heap} (h : KS G A U H) {y : MethodName} {pc idx : Nat} {σ : Lambda.Shape} (hw : Cond.lambdaSite y pc idx σ ∈ flatC (Jvm.Cond.and given_1 narrow_1)) (hne : σ.captured ≠ []) : ∃ cK, LamG G y pc idx σ cK := by
  obtain ⟨c, one, hat⟩ := Cond.lambdaSite_spec (h.nar hw)
  obtain ⟨m', kS, cfS, i0, p0, lk, hm', hkS, hcfS, -, -, hfind, hmade, hcan, hlk⟩ := State.lambdaAt?_spec hat
  rcases hlk with ⟨a, cell, -, -, h9, -⟩ | ⟨-, rfl, -⟩
  · exact absurd h9 hne
  · exact ⟨c, hat⟩
theorem lam_at {G : GG} {y : MethodName} {pc idx : Nat} {σ : Lambda.Shape} {cK : ClassId} {fb : ByteArray} {ct : String} {rt : FieldType} (ok : okSh σ fb ct rt) (hyc : y.cls = "VowelTorus") (h : LamG G y pc idx σ cK) {A : Nat → Prop} {s : State} {H : Heap} (hZ : KS G A s H) {U : State} (hW : s.WarmedH U.vm) :
    U.lambdaCallable σ cK = true ∧ ∃ jI, U.vm.findClass "java/lang/Integer" = some jI ∧ ∃ (k tk : Class) (file : ClassFile) (methk : Method) (ck : Code) (toy iface : ClassId) (t found : MethodId) (g0 : Field),
      (U.vm.classes[cK]? = some k ∧ k.name = "VowelTorus$$Lambda" ∧ k.cf = some file ∧ file.constantPool = (LD σ).constantPool ∧ k.instanceTypes = #[.object ct] ∧ k.kind = .ordinary) ∧
      (U.vm.method? ⟨cK, 1⟩ = some methk ∧ methk.code = some ck ∧ ck.code = fb ∧ ck.maxLocals = 2 ∧ methk.locks = false ∧ methk.accessFlags = 0x0001 ∧ methk.sig.returnType = some rt) ∧
      (U.vm.findClass "VowelTorus" = some toy ∧ U.vm.classes[toy]? = some tk ∧ tk.isInterface = false ∧ ((methodIn toy σ.implName σ.implDesc.toString tk.isInterface none).ask { classPath := fun _ => none } U.vm).1 = .ok t) ∧
      (U.vm.methodReady cK 25 t ∧ U.vm.classReady cK 21 toy ∧ U.vm.classReady cK 19 jI ∧ U.vm.fieldReady cK 15 cK g0 ∧ g0.isStatic = false ∧ g0.slot = 0) ∧
      (U.vm.findClass σ.iface = some iface ∧ ((methodIn iface σ.name σ.sam.toString true none).ask { classPath := fun _ => none } U.vm).1 = .ok found ∧ selectMethod {} U.vm cK found = .method ⟨cK, 1⟩) := by
  have hW0 : G.2.2.1.WarmedH U.vm := State.WarmedH.trans hZ.2.2.1 hW
  obtain ⟨m', kS, cfS, i0, p0, lk, hm', hkS, hcfS, -, -, hfind, hmade, hcan, hlk⟩ := State.lambdaAt?_spec h
  obtain ⟨kS', hkS', hnS⟩ := className_of_methodNamed hm'
  cases hkS.symm.trans hkS'
  have hA := hW0.alike
  obtain ⟨dk', hdk', ed⟩ := hA.2.2 _ _ hkS
  have hO : ∀ o ok, U.vm.findClass "java/lang/Object" = some o → U.vm.classes[o]? = some ok → ok.instanceTypes.size = 0 := by
    intro o ok9 ho hok
    obtain ⟨c9, k9, g1, g2, -, -, -, g3⟩ := Cond.instantiable_spec (word_at (a' := #[]) hW0 (good_of_word rfl) (hZ.1 _ (lw_all_tbl q2227)))
    cases ho.symm.trans g1
    cases hok.symm.trans g2
    exact g3
  obtain ⟨jI, -, hI, -⟩ := Cond.instantiable_spec (word_at (a' := #[]) hW0 (good_of_word rfl) (hZ.1 _ (lw_all_tbl q552)))
  refine ⟨?_, jI, hI, lam_facts ok hdk' (by rw [ed]; exact hnS.trans hyc) (Lambda.isMade_warmer hW0 hmade) hO hI⟩
  simp only [State.lambdaCallable, hA.findClass, hA.assignable, hA.superclasses, hA.declaredIn] at hcan ⊢
  exact hcan
/-- a lambda's object: its one cell -/
abbrev LMW (G : GG) (h cK cp : Nat) : va_W := [(h, .inl (cK, 1, .inr (.inr (.inr (.inr (fun _ => some cp))))))]
theorem lm_cell (cK : ClassId) (cp : Nat) : vp_cell cK (1, .inr (.inr (.inr (.inr (fun _ => some cp))))) = { cls := cK, slots := #[.ref cp], vm := .none } := by
  rw [vp_cell_q]; rfl
section LAMR
variable {p : Program} {l : Launch} {e : Env} {R : Room} {s : State} {m : MethodId} {args : Array Value} {below : List Frame} {meth : Method} {c : Code} {H : Heap} {locs : List Loc} {cells slots : Nat} {Q : State → Prop} {cc : ByteArray} {pc : Nat} {ls : Array Slot} {rest : List Value}
theorem W.getR (hx : p.tables.exec = Jvm.exec) (hb : c.code = cc) {idx : Nat} {cF : ClassId} {a : Nat} {cell : Cell} {v : Value} (hr : ∀ U : State, s.WarmedH U.vm → ∃ f9 : Field, U.vm.fieldReady m.cls idx cF f9 ∧ f9.isStatic = false ∧ cell.slots[f9.slot]? = some v) (hcell : H[a]? = some cell) (hkn : cell.vm ≠ .unknown) {g : JFrame} (hg : g.method = m) (hstack : g.stack = .ref a :: rest) (hd : decode cc g.pc = .ok (.getfield idx, 3)) (kk : W p l e R s m args below meth c H locs cells slots Q { g with pc := g.pc + 3, stack := v :: rest }) : W p l e R s m args below meth c H locs cells slots Q g := by
  intro T hT X
  obtain ⟨t, a1, b1⟩ := kk T hT X
  refine ⟨t, ?_, b1⟩
  subst hb; subst hT; subst hg
  obtain ⟨f9, hr9, hst, hv⟩ := hr T X.warmed
  jvm_step X.here [hx, hd, getfield.wp_ready (e := e) (s := T) (c := cF) (field := f9) (a := a) (rest := rest) (cell := cell) (v := v) (f := g) X.here.top hr9 hst hstack hcell hkn hv]
  exact a1
theorem W.castR (hx : p.tables.exec = Jvm.exec) (hb : c.code = cc) {idx : Nat} {cT : ClassId} {a : Nat} {cell : Cell} (hr : ∀ U : State, s.WarmedH U.vm → U.vm.classReady m.cls idx cT ∧ ∃ ks kt, U.vm.classes[cell.cls]? = some ks ∧ U.vm.classes[cT]? = some kt ∧ U.vm.assignable cell.cls cT = true) (hcell : H[a]? = some cell) (hkn : ∀ k, cell.vm ≠ .statics k) {g : JFrame} (hg : g.method = m) (hstack : g.stack = .ref a :: rest) (hd : decode cc g.pc = .ok (.checkcast idx, 3)) (kk : W p l e R s m args below meth c H locs cells slots Q { g with pc := g.pc + 3 }) : W p l e R s m args below meth c H locs cells slots Q g := by
  intro T hT X
  obtain ⟨t, a1, b1⟩ := kk T hT X
  refine ⟨t, ?_, b1⟩
  subst hb; subst hT; subst hg
  obtain ⟨h1, ks, kt, h3, h4, h5⟩ := hr T X.warmed
  jvm_step X.here [hx, hd, checkcast.wp_ready (e := e) (s := T) (c := cT) (x := .ref a) (rest := rest) (f := g) X.here.top h1 hstack]
  exact ⟨cell, hcell, hkn, ks, h3, kt, h4, by rw [if_pos h5]; exact a1⟩
end LAMR
section LAMC
variable {p : Program} {l : Launch} {e : Env} {R : Room} {s : State} {m : MethodId} {args : Array Value} {below : List Frame} {meth : Method} {c : Code} {H : Heap} {locs : List Loc} {cells slots : Nat} {Q : State → Prop} {G : GG} {A : Nat → Prop} {cc : ByteArray} {pc : Nat} {ls : Array Slot} {rest : List Value} {own : String} {index nL maxL : Nat} {wc : va_W} {S : Type} {post : Int32 → S → Prop} {ws1 : S → va_W}
/-- what the made method's body brings about -/
def QhL (G : GG) {S : Type} (post : Int32 → S → Prop) (ws1 : S → va_W) (A1 : Nat → Prop) (H : Heap) : Array Value → State → Outcome → State → Prop := fun _ _ o t => ∃ (r : Int32) (u : S), o = .returned (some (.int r)) ∧ post r u ∧ Bw G A1 (ws1 u) t ∧ H.size ≤ t.heap.size ∧ ∀ q : Nat, q < H.size → ¬ A1 q → t.heap[q]? = H[q]?
theorem lam_run {y x : MethodName} {pcS idxS : Nat} {σ : Lambda.Shape} {cK : ClassId} {fb : ByteArray} {ct : String} {rt : FieldType} {a cp ar : Nat} {rm : Room} {A1 : Nat → Prop} {cellI : Cell} {count : Nat} (ok : okSh σ fb ct rt) (hyc : y.cls = "VowelTorus") (hLam : LamG G y pcS idxS σ cK)
    (d0 : decode fb 0 = .ok (.aload_n 0, 1)) (d1 : decode fb 1 = .ok (.getfield 15, 3)) (d4 : decode fb 4 = .ok (.aload_n 1, 1)) (d5 : decode fb 5 = .ok (.checkcast 19, 3))
    (C9 : CallFix p m c cc nL s args lw_all own) (hZ : KS G A s s.heap) (hxn : x = ⟨σ.iface, σ.name, σ.sam.toString⟩) (hmh : x.cls ≠ "java/lang/invoke/MethodHandle" ∧ x.cls ≠ "java/lang/invoke/VarHandle") (hlen : (parseMethodDescriptor x.desc).map (fun d => d.parameters.length) = some 1)
    (hlink : (Cond.methodLink own index x).before args s = true) (hdecl : (Cond.declares x).before args s = true) (hface : (Cond.interfaceMethod x.cls x.cls x.name x.desc).before args s = true)
    (hcell : H[a]? = some { cls := cK, slots := #[.ref cp], vm := .none }) (hI1 : H[ar]? = some cellI) (hI2 : cellI.vm.isStatics = false) (hI3 : s.vm.findClass "java/lang/Integer" = some cellI.cls) (hI4 : s.vm.assignable cellI.cls cellI.cls = true) (hI5 : ∃ kI, s.vm.classes[cellI.cls]? = some kI)
    (hsz : ls.size = nL) (hrest : (rest.map fun v => v.category).sum ≤ 8) (hf : cells + rm.cells ≤ R.cells ∧ slots + rm.slots ≤ R.slots) (hfr : rm.frames + 2 ≤ R.frames) (hlo : 21 + (8 + (maxL + 11) + rm.locals) ≤ R.locals) (hd : decode cc pc = .ok (.invokeinterface index count, 5))
    (key : ∀ (s1 : State) (a1 : Array Value) (below1 : List Frame) (methk : Method) (ck : Code) (ls1 : Array Slot), s.WarmedH s1.vm → s1.heap = H → ck.code = fb → ck.maxLocals = 2 → ls1.size = 2 → methk.locks = false → methk.sig.returnType = some rt → W p l e (⟨rm.frames + 1, rm.cells, rm.slots, 8 + (maxL + 11) + rm.locals⟩ : Room) s1 ⟨cK, 1⟩ a1 below1 methk ck H [] 0 0 (MQ below1 (QhL G post ws1 A1 H) a1 s1 (0 + rm.cells) (0 + rm.slots) A1) (F0 ⟨cK, 1⟩ 8 ls1 [.ref ar, .ref cp])) :
    va_Run5 p l e R s m args below meth c H locs cells slots rm.cells rm.slots (F0 m pc ls (.ref ar :: .ref a :: rest)) rest (va_Qi post (fun u t => Bw G A1 (ws1 u) t) A1 #[.ref cp, .ref ar]) A1 := by
  obtain ⟨hx, hb, hml, hown, hts⟩ := C9
  intro T hT X
  obtain ⟨r0, r, hn, hrm, hstR, hsigR⟩ := Cond.declares_spec hdecl
  obtain ⟨cL, kL, r1, hcL, hkL, hiL, hfoundL, hn1⟩ := Cond.interfaceMethod_spec hface
  cases hn.symm.trans hn1
  have hr0cls : r0.cls = cL := Option.some.inj ((findClass_of_methodNamed hn).symm.trans hcL)
  obtain ⟨hnameR, hdescR⟩ := name_of_methodNamed hn hrm
  obtain ⟨hcan, jI0, hjI0, k, tk, file, methk0, ck0, toy, iface, t0, found, g00, ⟨hk1, hk2, hk3, hk4, hk5, hk6⟩, ⟨hm1, hm2, hm3, hm4, hm5, hm6, hm7⟩, -, -, hif, hfnd, hsel⟩ := lam_at ok hyc hLam hZ (State.WarmedH.refl s)
  obtain ⟨i2, hi2, hasg, hway⟩ := State.lambdaCallable_spec hcan
  subst hxn
  cases hif.symm.trans hi2
  cases hcL.symm.trans hif
  have hfr0 : found = r0 := by
    have h9 := hfoundL
    simp only [State.methodFound?, hcL, hkL, hiL, Option.bind_eq_bind, Option.bind_some] at h9
    rw [hfnd] at h9
    exact Option.some.inj h9
  subst hfr0
  have hlenr : (1 : Nat) = r.sig.parameters.length := by
    rw [hsigR] at hlen
    simpa using hlen.symm
  obtain ⟨vm₁, X₁, hstep₁⟩ := X.invokeinterface hx hown hlink hn hrm hstR (by rw [hr0cls]; exact hkL) hiL hmh (a := a) (cell := { cls := cK, slots := #[.ref cp], vm := .none }) (kcell := k) (by rw [hT]; exact hcell)
    (fun z h => by cases h) hk1 (by rw [hr0cls]; exact hasg) (by rw [Launch.admits_selectMethod X.admits]; exact hsel) hm1 (by rw [hnameR, hdescR]; exact hway) (by rw [hm6]; decide) (by simp [Method.isAbstract, hm6, hasFlag, Acc.abstract]) (g := F0 m pc ls (.ref ar :: .ref a :: rest)) rfl (argsL := [.ref ar]) (rest := rest) hlenr rfl (by rw [hb]; exact hd)
  have hW1 : s.WarmedH (T.setVm vm₁).vm := X₁.warmed
  obtain ⟨-, jI, hjI, kK, tk1, file1, methk, ck, toy1, iface1, t1, found1, g0, ⟨p1, p2, p3, p4, p5, p6⟩, ⟨n1, n2, n3, n4, n5, n6, n7⟩, -, -, -⟩ := lam_at ok hyc hLam hZ hW1
  obtain ⟨Y₀, hin⟩ := X₁.into (g := F0 m pc ls rest) rfl (hsz.trans hml.symm) (by rw [hb]; exact hd) (mk := ⟨cK, 1⟩) #[.ref a, .ref ar] (R' := (⟨rm.frames + 1, rm.cells, rm.slots, 8 + (maxL + 11) + rm.locals⟩ : Room)) n1 n2 n5 (State.plainMethod.of_name (fun k' hk' => by cases p1.symm.trans hk'; rw [p2]; decide)) hfr (by
    have h9 := lv_room (m := m) (pc := pc) (ls := ls) (rest := rest) hrest
    rw [n4]
    refine Nat.le_trans (Nat.add_le_add_right (Nat.add_le_add_right h9 _) _) ?_
    show 8 + (2 + 11) + (8 + (maxL + 11) + rm.locals) ≤ R.locals
    omega) hf.1 hf.2
  rw [n4] at Y₀ hin
  have hent : entryFrame ⟨cK, 1⟩ #[.ref a, .ref ar] 2 = F0 ⟨cK, 1⟩ 0 #[.val (.ref a), .val (.ref ar)] [] := rfl
  generalize hs1 : (T.setVm vm₁).calling (F0 m pc ls rest) ⟨cK, 1⟩ #[.ref a, .ref ar] = s1 at Y₀
  have hs1h : s1.heap = H := by rw [← hs1]; exact hT
  have hs1w : s.WarmedH s1.vm := by rw [← hs1]; exact hW1
  have hWd : W p l e (⟨rm.frames + 1, rm.cells, rm.slots, 8 + (maxL + 11) + rm.locals⟩ : Room) s1 ⟨cK, 1⟩ #[.ref a, .ref ar] (.java (F0 m pc ls rest) :: below) methk ck H [] 0 0 (MQ (.java (F0 m pc ls rest) :: below) (QhL G post ws1 A1 H) #[.ref a, .ref ar] s1 (0 + rm.cells) (0 + rm.slots) A1) (F0 ⟨cK, 1⟩ 0 #[.val (.ref a), .val (.ref ar)] []) := by
    have hl : lv_has #[.val (.ref a), .val (.ref ar)] 2 [(0, .ref a), (1, .ref ar)] := lv_entry [.ref a, .ref ar] (n := 2) (Nat.le_refl 2)
    refine lv_aload_n hx n3 d0 rfl (lv_at hl 0 rfl) ?_
    refine W.getR (cF := cK) (a := a) (cell := { cls := cK, slots := #[.ref cp], vm := .none }) (v := .ref cp) (rest := []) hx n3 (fun U hW => ?_) hcell (by intro h; cases h) rfl rfl d1 ?_
    · obtain ⟨-, _, -, _, _, _, _, _, _, _, _, _, g9, -, -, -, ⟨-, -, -, f1, f2, f3⟩, -⟩ := lam_at ok hyc hLam hZ (State.WarmedH.trans hs1w hW)
      exact ⟨g9, f1, f2, by rw [f3]; rfl⟩
    refine W.eq (g2 := F0 ⟨cK, 1⟩ 4 #[.val (.ref a), .val (.ref ar)] [.ref cp]) rfl ?_
    refine lv_aload_n hx n3 d4 rfl (lv_at hl 1 rfl) ?_
    refine W.castR (cT := cellI.cls) (a := ar) (cell := cellI) (rest := [.ref cp]) hx n3 (fun U hW => ?_) hI1 (fun k9 h9 => by rw [h9] at hI2; cases hI2) rfl rfl d5 ?_
    · have hW2 := State.WarmedH.trans hs1w hW
      obtain ⟨-, jI9, hj9, _, _, _, _, _, _, _, _, _, _, -, -, -, ⟨-, -, f1, -, -, -⟩, -⟩ := lam_at ok hyc hLam hZ hW2
      rw [hW2.alike.findClass] at hj9
      cases hI3.symm.trans hj9
      obtain ⟨kI, hkI⟩ := hI5
      obtain ⟨kI', hkI', -⟩ := hW2.alike.2.2 _ _ hkI
      exact ⟨f1, kI', kI', hkI', hkI', by rw [hW2.alike.assignable]; exact hI4⟩
    refine W.eq (g2 := F0 ⟨cK, 1⟩ 8 #[.val (.ref a), .val (.ref ar)] [.ref ar, .ref cp]) rfl ?_
    exact key s1 _ _ methk ck _ hs1w hs1h n3 n4 rfl n5 n7
  obtain ⟨t9, st9, o9, hrun9, hend9, ⟨r9, u9, rfl, hp9, hB9, hz9, hk9⟩, L9, ⟨-, hW9, hsame9⟩, hL9⟩ := hWd _ (by show (T.setVm vm₁).heap = H; exact hT) Y₀
  subst hs1
  obtain ⟨T', X', hW', -, ht9⟩ := X₁.outOf (g := F0 m pc ls rest) rfl (by rw [hb]; exact hd) hend9 hW9 hsame9
  have hh9 : T'.heap = t9.heap := by rw [ht9]; rfl
  refine ⟨some (.int r9), T, T', T', L9, hT, by simpa using X', hL9, rfl, rfl, ⟨⟨r9, u9, rfl, hp9, ⟨by rw [hh9]; exact hB9.1, hB9.2⟩⟩, by rw [hT, hh9]; exact hz9, fun q h1 h2 => by rw [hh9]; rw [hT] at h1 ⊢; exact hk9 q h1 h2⟩, fun tg htg => hstep₁ _ fun acts => ?_⟩
  rw [hin acts]
  have h8 : Steps p.tables e below _ t9 := Steps.weaken (mid := [.java (F0 m pc ls rest)]) st9
  refine Steps.trans (by rw [hent]; exact h8) ?_
  rw [ht9]
  exact htg
theorem lam_keyS {y yT : MethodName} {pcS idxS : Nat} {σ : Lambda.Shape} {cK : ClassId} {ct : String} {rt : FieldType} {cp ar : Nat} {rm : Room} {bytes : ByteArray} {ret : Option FieldType} (ok : okSh σ fwS ct rt) (hyc : y.cls = "VowelTorus") (hLam : LamG G y pcS idxS σ cK) (hZ : KS G A s s.heap) (hx : p.tables.exec = Jvm.exec) (hyT : yT = ⟨"VowelTorus", σ.implName, σ.implDesc.toString⟩)
    (hM : MM l G yT bytes maxL ret rm [.ref cp, .ref ar] wc (Qi_ G post ws1)) (hws : ∀ w ∈ ws_ yT bytes maxL ret, ∀ (a' : Array Value) (U : State), s.WarmedH U.vm → w.before a' U = true) (hini : (Cond.initialized "VowelTorus").before args s = true) (hdl : (parseMethodDescriptor σ.implDesc.toString).map (fun d => d.parameters.length) = some 2) (hstat : (Cond.static yT).before args s = true) (hp : PreS s H (Pre G [.ref cp, .ref ar] wc H.size) [.ref cp, .ref ar]) (hnar : ∀ r u, post r u → narrow rt (.int r) = .int r) : ∀ (s1 : State) (a1 : Array Value) (below1 : List Frame) (methk : Method) (ck : Code) (ls1 : Array Slot), s.WarmedH s1.vm → s1.heap = H → ck.code = fwS → ck.maxLocals = 2 → ls1.size = 2 → methk.locks = false → methk.sig.returnType = some rt → W p l e (⟨rm.frames + 1, rm.cells, rm.slots, 8 + (maxL + 11) + rm.locals⟩ : Room) s1 ⟨cK, 1⟩ a1 below1 methk ck H [] 0 0 (MQ below1 (QhL G post ws1 (va_A wc H.size) H) a1 s1 (0 + rm.cells) (0 + rm.slots) (va_A wc H.size)) (F0 ⟨cK, 1⟩ 8 ls1 [.ref ar, .ref cp]) := by
  intro s1 a1 below1 methk ck ls1 hW1 hh1 hcode hmL hls hlk hret1 T hT Y
  have hW2 : s.WarmedH T.vm := State.WarmedH.trans hW1 Y.warmed
  subst hyT
  have hmh9 : "VowelTorus" ≠ "java/lang/invoke/MethodHandle" ∧ "VowelTorus" ≠ "java/lang/invoke/VarHandle" := by decide
  obtain ⟨-, jI, hjI, kK, tk, file, methk', ck', toy, iface, t, found, g0, ⟨p1, p2, p3, p4, p5, p6⟩, -, ⟨v1, v2, v3, v4⟩, ⟨w1, w2, -, -, -, -⟩, -⟩ := lam_at ok hyc hLam hZ hW2
  have hini2 : (Cond.initialized "VowelTorus").before #[] T = true := word_at hW2 (good_of_word rfl) hini
  have hK : Back l (⟨rm.frames + 1, rm.cells, rm.slots, 8 + (maxL + 11) + rm.locals⟩ : Room) p e below1 s1 a1 ⟨"VowelTorus", σ.implName, σ.implDesc.toString⟩ 3 8 (PreOf (⟨rm.frames + 1, rm.cells, rm.slots, 8 + (maxL + 11) + rm.locals⟩ : Room) rm.cells rm.slots (Pre G [.ref cp, .ref ar] wc H.size)) (PostOf (Qi_ G post ws1 (va_A wc H.size)) rm.cells rm.slots (va_A wc H.size)) :=
    back_of (bytes := bytes) (maxL := maxL) (ret := ret) (hM H.size) hp.1 rfl rfl (Nat.le_refl _) (Nat.le_refl _) (fun w hw a' U hW => hws w hw a' U (State.WarmedH.trans hW1 hW)) List.mem_cons_self (fun a' U hW => word_at (State.WarmedH.trans hW1 hW) (good_of_word rfl) hini)
  have hcode2 : (Cond.code ⟨"VowelTorus", σ.implName, σ.implDesc.toString⟩ bytes maxL ret).before #[] T = true := hws _ List.mem_cons_self _ T hW2
  obtain ⟨mB, hnB⟩ := Cond.code_named hcode2
  obtain ⟨methB, cB, hmB, -, -, -, -, -, -, hsigB⟩ := Cond.code_spec hnB hcode2
  have hfT : T.vm.findClass "VowelTorus" = some mB.cls := findClass_of_methodNamed hnB
  cases v1.symm.trans hfT
  have htB : t = mB := by
    have h1 : T.methodFound? "VowelTorus" σ.implName σ.implDesc.toString = some mB := State.methodFound?_of_named hnB hmh9
    simp only [State.methodFound?, hfT, v2, Option.bind_eq_bind, Option.bind_some] at h1
    rw [v4] at h1
    exact Option.some.inj h1
  subst htB
  obtain ⟨kT', hkT', hnameT⟩ := className_of_methodNamed hnB
  cases v2.symm.trans hkT'
  have hsp : ∀ z : Method, signaturePolymorphic tk z = false := fun z => by
    have h9 : tk.name = "VowelTorus" := hnameT
    simp [signaturePolymorphic, h9]
  have hlen : (2 : Nat) = methB.sig.parameters.length := by
    have h9 : parseMethodDescriptor σ.implDesc.toString = some methB.sig := hsigB
    rw [h9] at hdl
    simpa using hdl.symm
  have hp9 := hp.2
  have hstB : methB.isStatic = true := Cond.static_spec hnB hmB (word_at (a' := #[]) hW2 (good_of_word rfl) hstat)
  have hinitK : tk.init = .initialized := Cond.initialized_spec hfT v2 hini2
  obtain ⟨b, hmem⟩ := memberRef_ask' (e := e) (vm := T.vm) (d := cK) (index := 25) (ci := 21) (n := 24) p1 p3 (Or.inl (by rw [p4]; exact ok.2.2.2.2.2.1.1)) (by rw [p4]; exact ok.2.2.2.2.2.1.2.2)
  obtain ⟨v, ⟨U', l2, c2, s2⟩, Y', ⟨g3, mk3, t3, L, e1, e2, hq, hl, hL, hc, hs⟩, hsteps⟩ := hK ⟨cK, 1⟩ methk ck ⟨T, [], 0, 0⟩ (F0 ⟨cK, 1⟩ 8 ls1 []) (.invokestatic 25) t #[.ref cp, .ref ar] Y rfl (hls.trans hmL.symm) (by rw [hcode]; exact fwS_8) (lv_room (rest := []) (st := []) (Nat.zero_le 8)) hnB ⟨Nat.le_of_eq (Nat.zero_add _), Nat.le_of_eq (Nat.zero_add _), hp9 T hT hW2⟩
  dsimp only [Pt.U, Pt.locs, Pt.cells, Pt.slots] at Y' e1 e2 hl hc hs hsteps
  obtain rfl : L = l2 := by simpa using hl.symm
  subst hc; subst hs
  obtain ⟨⟨r, u, ho, hpo, hB9⟩, hz, hk⟩ := hq
  cases ho
  have hTH : (T.calling g3 mk3 #[.ref cp, .ref ar]).heap = H := hT
  rw [hTH] at hz hk
  obtain ⟨t9, a9, b9⟩ := (W.zret (p := p) (l := l) (e := e) (R := (⟨rm.frames + 1, rm.cells, rm.slots, 8 + (maxL + 11) + rm.locals⟩ : Room)) (s := s1) (m := ⟨cK, 1⟩) (args := a1) (below := below1) (meth := methk) (c := ck) (H := U'.heap) (locs := L) (cells := 0 + rm.cells) (slots := 0 + rm.slots) (Qc := QhL G post ws1 (va_A wc H.size) H) (free := va_A wc H.size) (v := r) (ls := ls1) (pc := 11) hx hcode hret1 (hnar _ _ hpo) (fun t8 ht8 _ => ⟨r, u, rfl, hpo, ⟨by rw [ht8, e1]; exact hB9.1, hB9.2⟩, by rw [ht8, e1]; exact hz, fun q h1 h2 => by rw [ht8, e1]; exact hk q h1 h2⟩) hL fwS_11 hlk) U' rfl Y'
  refine ⟨t9, ?_, b9⟩
  have hd8 : decode ck.code (F0 ⟨cK, 1⟩ 8 ls1 [.ref ar, .ref cp]).pc = .ok (.invokestatic 25, 3) := by rw [hcode]; exact fwS_8
  jvm_step Y.here [hx, hd8, invokestatic.wp_ready (e := e) (s := T) (m := t) (k := tk) (meth := methB) (args := [.ref cp, .ref ar]) (rest := []) (f := F0 ⟨cK, 1⟩ 8 ls1 [.ref ar, .ref cp]) Y.here.top ⟨21, _, _, b, t.cls, tk, hmem, w2, v2, by simp [hsp]⟩ w1 v2 hmB (hsp _) hstB hinitK hlen rfl]
  intro acts
  rw [doInvoke_state]
  exact hsteps.trans a9
theorem lam_keyV {y yT : MethodName} {pcS idxS : Nat} {σ : Lambda.Shape} {cK : ClassId} {ct : String} {rt : FieldType} {cp ar : Nat} {rm : Room} {bytes : ByteArray} {ret : Option FieldType} (ok : okSh σ fwV ct rt) (hyc : y.cls = "VowelTorus") (hLam : LamG G y pcS idxS σ cK) (hZ : KS G A s s.heap) (hx : p.tables.exec = Jvm.exec) (hyT : yT = ⟨"VowelTorus", σ.implName, σ.implDesc.toString⟩)
    (hM : MM l G yT bytes maxL ret rm [.ref cp, .ref ar] wc (Qi_ G post ws1)) (hws : ∀ w ∈ ws_ yT bytes maxL ret, ∀ (a' : Array Value) (U : State), s.WarmedH U.vm → w.before a' U = true) (hini : (Cond.initialized "VowelTorus").before args s = true) (hdl : (parseMethodDescriptor σ.implDesc.toString).map (fun d => d.parameters.length) = some 1) (hinst : (Cond.instanceMethod yT).before args s = true) (hsel : (Cond.selects "VowelTorus" yT yT).before args s = true) (hp : PreV s H "VowelTorus" cp (Pre G [.ref cp, .ref ar] wc H.size) [.ref ar]) (hnar : ∀ r u, post r u → narrow rt (.int r) = .int r) : ∀ (s1 : State) (a1 : Array Value) (below1 : List Frame) (methk : Method) (ck : Code) (ls1 : Array Slot), s.WarmedH s1.vm → s1.heap = H → ck.code = fwV → ck.maxLocals = 2 → ls1.size = 2 → methk.locks = false → methk.sig.returnType = some rt → W p l e (⟨rm.frames + 1, rm.cells, rm.slots, 8 + (maxL + 11) + rm.locals⟩ : Room) s1 ⟨cK, 1⟩ a1 below1 methk ck H [] 0 0 (MQ below1 (QhL G post ws1 (va_A wc H.size) H) a1 s1 (0 + rm.cells) (0 + rm.slots) (va_A wc H.size)) (F0 ⟨cK, 1⟩ 8 ls1 [.ref ar, .ref cp]) := by
  intro s1 a1 below1 methk ck ls1 hW1 hh1 hcode hmL hls hlk hret1 T hT Y
  have hW2 : s.WarmedH T.vm := State.WarmedH.trans hW1 Y.warmed
  subst hyT
  have hmh9 : "VowelTorus" ≠ "java/lang/invoke/MethodHandle" ∧ "VowelTorus" ≠ "java/lang/invoke/VarHandle" := by decide
  obtain ⟨-, jI, hjI, kK, tk, file, methk', ck', toy, iface, t, found, g0, ⟨p1, p2, p3, p4, p5, p6⟩, -, ⟨v1, v2, v3, v4⟩, ⟨w1, w2, -, -, -, -⟩, -⟩ := lam_at ok hyc hLam hZ hW2
  have hini2 : (Cond.initialized "VowelTorus").before #[] T = true := word_at hW2 (good_of_word rfl) hini
  have hK : Back l (⟨rm.frames + 1, rm.cells, rm.slots, 8 + (maxL + 11) + rm.locals⟩ : Room) p e below1 s1 a1 ⟨"VowelTorus", σ.implName, σ.implDesc.toString⟩ 3 8 (PreOf (⟨rm.frames + 1, rm.cells, rm.slots, 8 + (maxL + 11) + rm.locals⟩ : Room) rm.cells rm.slots (Pre G [.ref cp, .ref ar] wc H.size)) (PostOf (Qi_ G post ws1 (va_A wc H.size)) rm.cells rm.slots (va_A wc H.size)) :=
    back_of (bytes := bytes) (maxL := maxL) (ret := ret) (hM H.size) hp.1 rfl rfl (Nat.le_refl _) (Nat.le_refl _) (fun w hw a' U hW => hws w hw a' U (State.WarmedH.trans hW1 hW)) List.mem_cons_self (fun a' U hW => word_at (State.WarmedH.trans hW1 hW) (good_of_word rfl) hini)
  have hcode2 : (Cond.code ⟨"VowelTorus", σ.implName, σ.implDesc.toString⟩ bytes maxL ret).before #[] T = true := hws _ List.mem_cons_self _ T hW2
  obtain ⟨mB, hnB⟩ := Cond.code_named hcode2
  obtain ⟨methB, cB, hmB, -, -, -, -, -, -, hsigB⟩ := Cond.code_spec hnB hcode2
  have hfT : T.vm.findClass "VowelTorus" = some mB.cls := findClass_of_methodNamed hnB
  cases v1.symm.trans hfT
  have htB : t = mB := by
    have h1 : T.methodFound? "VowelTorus" σ.implName σ.implDesc.toString = some mB := State.methodFound?_of_named hnB hmh9
    simp only [State.methodFound?, hfT, v2, Option.bind_eq_bind, Option.bind_some] at h1
    rw [v4] at h1
    exact Option.some.inj h1
  subst htB
  obtain ⟨kT', hkT', hnameT⟩ := className_of_methodNamed hnB
  cases v2.symm.trans hkT'
  have hsp : ∀ z : Method, signaturePolymorphic tk z = false := fun z => by
    have h9 : tk.name = "VowelTorus" := hnameT
    simp [signaturePolymorphic, h9]
  have hlen : (1 : Nat) = methB.sig.parameters.length := by
    have h9 : parseMethodDescriptor σ.implDesc.toString = some methB.sig := hsigB
    rw [h9] at hdl
    simpa using hdl.symm
  obtain ⟨-, ⟨cellB, hcB, hoB, hclB⟩, hp9⟩ := hp
  obtain ⟨mk9, methM, hnamed, hmethM, hst9, hab9⟩ := Cond.instanceMethod_spec (word_at (a' := #[]) hW2 (good_of_word rfl) hinst)
  cases hnB.symm.trans hnamed
  cases hmB.symm.trans hmethM
  obtain ⟨c2, r2, m2, q1, q2, q3, q4, kP, hkP, hkPi⟩ := Cond.selects_spec (word_at (a' := #[]) hW2 (good_of_word rfl) hsel)
  cases hfT.symm.trans q1
  cases (State.methodFound?_of_named hnB hmh9).symm.trans q2
  cases hnB.symm.trans q3
  rw [← hW2.alike.findClass] at hclB
  have hcl9 : cellB.cls = t.cls := Option.some.inj (hclB.symm.trans hfT)
  obtain ⟨v, ⟨U', l2, c2, s2⟩, Y', ⟨g3, mk3, t3, L, e1, e2, hq, hl, hL, hc, hs⟩, hsteps⟩ := hK ⟨cK, 1⟩ methk ck ⟨T, [], 0, 0⟩ (F0 ⟨cK, 1⟩ 8 ls1 []) (.invokevirtual 25) t #[.ref cp, .ref ar] Y rfl (hls.trans hmL.symm) (by rw [hcode]; exact fwV_8) (lv_room (rest := []) (st := []) (Nat.zero_le 8)) hnB ⟨Nat.le_of_eq (Nat.zero_add _), Nat.le_of_eq (Nat.zero_add _), hp9 T hT hW2⟩
  dsimp only [Pt.U, Pt.locs, Pt.cells, Pt.slots] at Y' e1 e2 hl hc hs hsteps
  obtain rfl : L = l2 := by simpa using hl.symm
  subst hc; subst hs
  obtain ⟨⟨r, u, ho, hpo, hB9⟩, hz, hk⟩ := hq
  cases ho
  have hTH : (T.calling g3 mk3 #[.ref cp, .ref ar]).heap = H := hT
  rw [hTH] at hz hk
  obtain ⟨t9, a9, b9⟩ := (W.zret (p := p) (l := l) (e := e) (R := (⟨rm.frames + 1, rm.cells, rm.slots, 8 + (maxL + 11) + rm.locals⟩ : Room)) (s := s1) (m := ⟨cK, 1⟩) (args := a1) (below := below1) (meth := methk) (c := ck) (H := U'.heap) (locs := L) (cells := 0 + rm.cells) (slots := 0 + rm.slots) (Qc := QhL G post ws1 (va_A wc H.size) H) (free := va_A wc H.size) (v := r) (ls := ls1) (pc := 11) hx hcode hret1 (hnar _ _ hpo) (fun t8 ht8 _ => ⟨r, u, rfl, hpo, ⟨by rw [ht8, e1]; exact hB9.1, hB9.2⟩, by rw [ht8, e1]; exact hz, fun q h1 h2 => by rw [ht8, e1]; exact hk q h1 h2⟩) hL fwV_11 hlk) U' rfl Y'
  refine ⟨t9, ?_, b9⟩
  have hd8 : decode ck.code (F0 ⟨cK, 1⟩ 8 ls1 [.ref ar, .ref cp]).pc = .ok (.invokevirtual 25, 3) := by rw [hcode]; exact fwV_8
  jvm_step Y.here [hx, hd8, invokevirtual.wp_ready (e := e) (s := T) (r := t) (m := t) (k := tk) (mk := kP) (rmeth := methB) (meth := methB) (a := cp) (args := [.ref ar]) (rest := []) (cell := cellB) (f := F0 ⟨cK, 1⟩ 8 ls1 [.ref ar, .ref cp]) Y.here.top ⟨kK, file, 21, 24, t.cls, tk, p1, p3, by rw [p4]; exact ok.2.2.2.2.2.1.1, w2, v2, v3⟩ w1 v2 hmB (hsp _) hst9 hlen rfl (by rw [hT]; exact hcB) (fun z h => by rw [h] at hoB; cases hoB) (by rw [hcl9, Launch.admits_selectMethod Y.admits]; exact q4) hmB hab9 hkP hkPi]
  intro acts
  rw [doInvoke_state]
  exact hsteps.trans a9
theorem callLS {ws wr : va_W} {y x yT : MethodName} {pcS idxS : Nat} {σ : Lambda.Shape} {cK : ClassId} {ct : String} {rt : FieldType} {a cp j : Nat} {rm : Room} {bytes : ByteArray} {ret : Option FieldType} {count : Nat} (ok : okSh σ fwS ct rt) (hyc : y.cls = "VowelTorus") (hLam : LamG G y pcS idxS σ cK) (C9 : CallFix p m c cc nL s args lw_all own)
    (hM : MM l G yT bytes maxL ret rm [.ref cp, .ref (icA G j)] wc (Qi_ G post ws1)) (hyT : yT = ⟨"VowelTorus", σ.implName, σ.implDesc.toString⟩) (hxn : x = ⟨σ.iface, σ.name, σ.sam.toString⟩) (hmh : x.cls ≠ "java/lang/invoke/MethodHandle" ∧ x.cls ≠ "java/lang/invoke/VarHandle") (hlx : (parseMethodDescriptor x.desc).map (fun d => d.parameters.length) = some 1) (hdl : (parseMethodDescriptor σ.implDesc.toString).map (fun d => d.parameters.length) = some 2)
    (hcode : Cond.code yT bytes maxL ret ∈ lw_all) (hini : (Cond.initialized "VowelTorus").before args s = true) (hlink : (Cond.methodLink own index x).before args s = true) (hdecl : (Cond.declares x).before args s = true) (hface : (Cond.interfaceMethod x.cls x.cls x.name x.desc).before args s = true) (hK : va_K G.1 CL (TYS G) s) (hZ : KS G A s s.heap) (hA : ∀ q : Nat, s.heap.size ≤ q → A q) (hP : va_P G.1 CL ws H) (hD : va_D A ws) (hS : va_S A s.heap H locs) (isC isR : List Nat) (hC : isC.map (fun i => ws[i]?) = wc.map some) (hR : isR.map (fun i => ws[i]?) = wr.map some) (hnc : va_nd isC = true) (hnr : va_nd isR = true) (hdis : ∀ i ∈ isR, i ∉ isC) (hstat : (Cond.static yT).before args s = true) (hIC : ICok G) (hj : j < 256) (ql : Nat) (hql : ws[ql]? = some (a, .inl (cK, 1, .inr (.inr (.inr (.inr (fun _ => some cp))))))) (hnar : ∀ r u, post r u → narrow rt (.int r) = .int r)
    (hsz : ls.size = nL) (hrest : (rest.map fun v => v.category).sum ≤ 8) (hf : cells + rm.cells ≤ R.cells ∧ slots + rm.slots ≤ R.slots) (hfr : rm.frames + 2 ≤ R.frames) (hlo : 21 + (8 + (maxL + 11) + rm.locals) ≤ R.locals) (hd : decode cc pc = .ok (.invokeinterface index count, 5))
    (kk : ∀ (r : Int32) (u : S) (H1 : Heap) (locs1 : List Loc), post r u → va_P G.1 CL (wr ++ ws1 u) H1 → va_D A (wr ++ ws1 u) → va_S A s.heap H1 locs1 → W p l e R s m args below meth c H1 locs1 (cells + rm.cells) (slots + rm.slots) Q (F0 m (pc + 5) ls (.int r :: rest))) : W p l e R s m args below meth c H locs cells slots Q (F0 m pc ls (.ref (icA G j) :: .ref a :: rest)) := by
  have hF := free_of hA hD hS isC hC
  have hPc := cut_P hP isC hC
  have hDc := hD.sub isC hnc hC
  have hbx : vb_C (icA G) A s H := (hZ.ic hIC).kept (fun a ha hna => hS.2.1 a ha hna)
  obtain ⟨cellI, g1, g2, g3, -⟩ := hbx.1 j hj
  have hcI : ClassAt s "java/lang/Integer" cellI.cls := by
    have h9 := (hK.1 11 _ rfl).2
    have e9 := Option.some.inj (h9.1.symm.trans g3)
    rw [← e9]; exact h9
  have hws : ∀ w ∈ ws_ yT bytes maxL ret, ∀ (a' : Array Value) (U : State), s.WarmedH U.vm → w.before a' U = true := pay_in C9.2.2.2.2 (lw_meth hcode)
  have hLc : H[a]? = some { cls := cK, slots := #[.ref cp], vm := .none } := by rw [← lm_cell]; exact hP ql _ hql
  refine va_callFi (lam_run ok hyc hLam fwS_0 fwS_1 fwS_4 fwS_5 C9 hZ hxn hmh hlx hlink hdecl hface hLc g1 g2 g3 (va_assign hcI) ⟨hcI.2.choose, hcI.2.choose_spec.1⟩ hsz hrest hf hfr hlo hd (lam_keyS ok hyc hLam hZ C9.1 hyT hM hws hini hdl hstat (pre_S hK hZ hS hPc hDc hF) hnar)) hS (fun q _ h => hF q h) hF (fun r u t H1 locs1 ht hvm hw hB hz1 hk1 hS1 => ?_)
  obtain ⟨hP1, hD1⟩ := hB
  rw [ht] at hP1
  obtain ⟨hP2, hD2⟩ := va_join (wr := wr) hP hD isC isR hC hR hnr hdis hk1 hF hP1 hD1
  exact kk r u H1 locs1 hw hP2 hD2 hS1
theorem callLV {ws wr : va_W} {y x yT : MethodName} {pcS idxS : Nat} {σ : Lambda.Shape} {cK : ClassId} {ct : String} {rt : FieldType} {a cp j : Nat} {rm : Room} {bytes : ByteArray} {ret : Option FieldType} {count : Nat} (ok : okSh σ fwV ct rt) (hyc : y.cls = "VowelTorus") (hLam : LamG G y pcS idxS σ cK) (C9 : CallFix p m c cc nL s args lw_all own)
    (hM : MM l G yT bytes maxL ret rm [.ref cp, .ref (icA G j)] wc (Qi_ G post ws1)) (hyT : yT = ⟨"VowelTorus", σ.implName, σ.implDesc.toString⟩) (hxn : x = ⟨σ.iface, σ.name, σ.sam.toString⟩) (hmh : x.cls ≠ "java/lang/invoke/MethodHandle" ∧ x.cls ≠ "java/lang/invoke/VarHandle") (hlx : (parseMethodDescriptor x.desc).map (fun d => d.parameters.length) = some 1) (hdl : (parseMethodDescriptor σ.implDesc.toString).map (fun d => d.parameters.length) = some 1)
    (hcode : Cond.code yT bytes maxL ret ∈ lw_all) (hini : (Cond.initialized "VowelTorus").before args s = true) (hlink : (Cond.methodLink own index x).before args s = true) (hdecl : (Cond.declares x).before args s = true) (hface : (Cond.interfaceMethod x.cls x.cls x.name x.desc).before args s = true) (hK : va_K G.1 CL (TYS G) s) (hZ : KS G A s s.heap) (hA : ∀ q : Nat, s.heap.size ≤ q → A q) (hP : va_P G.1 CL ws H) (hD : va_D A ws) (hS : va_S A s.heap H locs) (isC isR : List Nat) (hC : isC.map (fun i => ws[i]?) = wc.map some) (hR : isR.map (fun i => ws[i]?) = wr.map some) (hnc : va_nd isC = true) (hnr : va_nd isR = true) (hdis : ∀ i ∈ isR, i ∉ isC) (hinst : (Cond.instanceMethod yT).before args s = true) (hsel : (Cond.selects "VowelTorus" yT yT).before args s = true) (q0 ci : Nat) {q : vw_C} {fs : List Value} (hc : CL[ci]? = some q) (hq1 : q.1 = "VowelTorus") (he : wc[q0]? = some (cp, .inr (ci, fs))) (hIC : ICok G) (hj : j < 256) (ql : Nat) (hql : ws[ql]? = some (a, .inl (cK, 1, .inr (.inr (.inr (.inr (fun _ => some cp))))))) (hnar : ∀ r u, post r u → narrow rt (.int r) = .int r)
    (hsz : ls.size = nL) (hrest : (rest.map fun v => v.category).sum ≤ 8) (hf : cells + rm.cells ≤ R.cells ∧ slots + rm.slots ≤ R.slots) (hfr : rm.frames + 2 ≤ R.frames) (hlo : 21 + (8 + (maxL + 11) + rm.locals) ≤ R.locals) (hd : decode cc pc = .ok (.invokeinterface index count, 5))
    (kk : ∀ (r : Int32) (u : S) (H1 : Heap) (locs1 : List Loc), post r u → va_P G.1 CL (wr ++ ws1 u) H1 → va_D A (wr ++ ws1 u) → va_S A s.heap H1 locs1 → W p l e R s m args below meth c H1 locs1 (cells + rm.cells) (slots + rm.slots) Q (F0 m (pc + 5) ls (.int r :: rest))) : W p l e R s m args below meth c H locs cells slots Q (F0 m pc ls (.ref (icA G j) :: .ref a :: rest)) := by
  have hF := free_of hA hD hS isC hC
  have hPc := cut_P hP isC hC
  have hDc := hD.sub isC hnc hC
  have hbx : vb_C (icA G) A s H := (hZ.ic hIC).kept (fun a ha hna => hS.2.1 a ha hna)
  obtain ⟨cellI, g1, g2, g3, -⟩ := hbx.1 j hj
  have hcI : ClassAt s "java/lang/Integer" cellI.cls := by
    have h9 := (hK.1 11 _ rfl).2
    have e9 := Option.some.inj (h9.1.symm.trans g3)
    rw [← e9]; exact h9
  have hws : ∀ w ∈ ws_ yT bytes maxL ret, ∀ (a' : Array Value) (U : State), s.WarmedH U.vm → w.before a' U = true := pay_in C9.2.2.2.2 (lw_meth hcode)
  have hLc : H[a]? = some { cls := cK, slots := #[.ref cp], vm := .none } := by rw [← lm_cell]; exact hP ql _ hql
  refine va_callFi (lam_run ok hyc hLam fwV_0 fwV_1 fwV_4 fwV_5 C9 hZ hxn hmh hlx hlink hdecl hface hLc g1 g2 g3 (va_assign hcI) ⟨hcI.2.choose, hcI.2.choose_spec.1⟩ hsz hrest hf hfr hlo hd (lam_keyV ok hyc hLam hZ C9.1 hyT hM hws hini hdl hinst hsel (hq1 ▸ pre_V hK hZ hS hPc hDc hF hc he) hnar)) hS (fun q _ h => hF q h) hF (fun r u t H1 locs1 ht hvm hw hB hz1 hk1 hS1 => ?_)
  obtain ⟨hP1, hD1⟩ := hB
  rw [ht] at hP1
  obtain ⟨hP2, hD2⟩ := va_join (wr := wr) hP hD isC isR hC hR hnr hdis hk1 hF hP1 hD1
  exact kk r u H1 locs1 hw hP2 hD2 hS1
/-- making a lambda that catches one thing -/
theorem mk_lam {ws : va_W} {y : MethodName} {idx : Nat} {σ : Lambda.Shape} {cK : ClassId} {fb : ByteArray} {ct : String} {rt : FieldType} {cp : Nat} (ok : okSh σ fb ct rt) (hyc : y.cls = "VowelTorus") (hLam : LamG G y pc idx σ cK) (hcap : σ.captured.length = 1) (hx : p.tables.exec = Jvm.exec) (hb : c.code = cc) (hnm : s.methodNamed? y = some m) (hZ : KS G A s s.heap) (hP : va_P G.1 CL ws H) (hD : va_D A ws) (hS : va_S A s.heap H locs) (hA : ∀ q : Nat, s.heap.size ≤ q → A q) (hsz : ls.size = c.maxLocals)
    (hw : (rest.map fun v => v.category).sum + 3073 ≤ R.locals) (hc : cells + 1 ≤ R.cells) (hs : slots + 1 ≤ R.slots) (hd : decode cc pc = .ok (.invokedynamic idx, 5))
    (kk : ∀ (q : Nat) (H1 : Heap), va_P G.1 CL (ws ++ LMW G q cK cp) H1 → va_D A (ws ++ LMW G q cK cp) → va_S A s.heap H1 locs → W p l e R s m args below meth c H1 locs (cells + 1) (slots + 1) Q (F0 m (pc + 5) ls (.ref q :: rest))) : W p l e R s m args below meth c H locs cells slots Q (F0 m pc ls (.ref cp :: rest)) := by
  intro T hT X
  obtain ⟨m', kS, cfS, i0, p0, lk, hm', hkS, hcfS, hsh, -, hfind, hmade, hcan, hlk⟩ := State.lambdaAt?_spec hLam
  have hW0 := hZ.2.2.1
  have hA0 := hW0.alike
  have hmm : m' = m := by
    have h9 := State.methodNamed?_setVm (s := G.2.2.1) hA0 y
    rw [hm'] at h9
    have h8 : s.methodNamed? y = some m' := h9
    exact Option.some.inj (h8.symm.trans hnm)
  subst hmm
  obtain ⟨rfl, -, -⟩ : lk = .makes cK ∧ (none : Option Addr) = none ∧ σ.captured ≠ [] := by
    rcases hlk with ⟨a, cell, -, h9, -⟩ | h9
    · cases h9
    · exact h9
  obtain ⟨kS', hkS', eS⟩ := hA0.2.2 _ _ hkS
  obtain ⟨-, jI, -, kK, tk, file, methk, ck, toy, iface, t, found, g0, ⟨p1, p2, p3, p4, p5, p6⟩, -⟩ := lam_at ok hyc hLam hZ (State.WarmedH.refl s)
  obtain ⟨b9, nt9, hcp, nm9, ds9, hnt, sg9, hsg, hpar⟩ : ∃ b nt, cfS.constantPool[idx]? = some (.invokeDynamic b nt) ∧ ∃ name desc, cfS.constantPool.nameAndType? nt = some (name, desc) ∧ ∃ sig, parseMethodDescriptor desc = some sig ∧ sig.parameters = σ.captured := by
    exact shape_site hsh
  have hsl : ((kK.instanceTypes.toList.zip [Value.ref cp]).map fun (t, v) => narrow t v) = [.ref cp] := by rw [p5]; rfl
  obtain ⟨X₁, st1⟩ := X.lambdaMakes hx (g := F0 m' pc ls (.ref cp :: rest)) rfl hsz (by rw [hb]; exact hd) (k := kS') (cf := cfS) (vals := [.ref cp]) (rest := rest) hkS' (by rw [eS]; exact hfind) (by rw [eS]; exact hcfS) hcp hnt (parseLong_of_parse hsg) (by rw [hpar]; exact hcap.symm) rfl p1
    (by rw [X.admits.platform]; show 2 * 0 + (1 + (rest.map fun v => v.category).sum) + 3072 ≤ R.locals; omega) hc (by rw [hsl]; exact hs)
    (fun i x hx9 => by
      rw [hsl] at hx9
      cases i with
      | zero => simp at hx9; subst hx9; simp [State.fitsSlot, State.slotType?, p1, p6, p5, fits]
      | succ j => simp at hx9)
  rw [hsl] at X₁ st1
  generalize hH1 : H.push ({ cls := cK, slots := [Value.ref cp].toArray, vm := .none } : Cell) = H1
  have z1 : H1.size = H.size + 1 := by rw [← hH1, Array.size_push]
  have e1 : H1[H.size]? = some { cls := cK, slots := [Value.ref cp].toArray, vm := .none } := by rw [← hH1, Array.getElem?_push_size]
  have o1 : ∀ q : Nat, q < H.size → H1[q]? = H[q]? := fun q hq => by rw [← hH1, Array.getElem?_push, if_neg (Nat.ne_of_lt hq)]
  have hk : ∀ (k : Nat) (x : Nat × va_E), ws[k]? = some x → H1[x.1]? = H[x.1]? := fun k x hx => o1 x.1 ((hP k x hx).lt)
  obtain ⟨t9, a9, b9⟩ := kk H.size H1 ((hP.kept hk).app (fun k x hx9 => by
      have hz : k < 1 := (List.getElem?_eq_some_iff.mp hx9).1
      rw [show k = 0 by omega] at hx9
      cases hx9
      show H1[H.size]? = some (vp_cell cK (1, .inr (.inr (.inr (.inr (fun _ => some cp))))))
      rw [lm_cell]; exact e1)) (hD.push hP rfl (hA _ hS.1)) ⟨Nat.le_trans hS.1 (by omega), fun x h1 h2 => (o1 x (Nat.lt_of_lt_of_le h1 hS.1)).trans (hS.2.1 x h1 h2), hS.2.2⟩
    (T.pushCell { cls := cK, slots := [Value.ref cp].toArray, vm := .none }) (by rw [← hH1, ← hT]; rfl) X₁
  refine ⟨t9, st1 t9 ?_, b9⟩
  rw [hT]
  exact a9
end LAMC
theorem KS.face {G : GG} {A : Nat → Prop} {U : State} {H : Heap} (h : KS G A U H) {x : MethodName} (hx : x.cls ≠ "java/lang/invoke/MethodHandle" ∧ x.cls ≠ "java/lang/invoke/VarHandle") (h1 : Cond.declares x ∈ lw_tbl) (h2 : Cond.interfaceMethod x.cls x.cls x.name x.desc ∈ lw_tbl) {args : Array Value} : (Cond.interfaceMethod x.cls x.cls x.name x.desc).before args U = true := by
  obtain ⟨r, meth, hn, -⟩ := Cond.declares_spec (h.1 _ h1)
  have e : (Cond.interfaceMethod x.cls x.cls x.name x.desc).before #[Value.ref G.2.2.2] (G.2.2.1.setVm U.vm) = true := by rw [Cond.interfaceMethod_setVm h.2.2.1.alike (r := r) hn hx]; exact h.1 _ h2
  exact va_tabs rfl (rfl : (G.2.2.1.setVm U.vm).vm = U.vm) e
theorem MM.ofN {l : Launch} {G : GG} {y : MethodName} {cc : ByteArray} {nL : Nat} {ret : Option FieldType} {rm : Room} {av : List Value} {ws : va_W} {Qf : (Nat → Prop) → Array Value → State → Outcome → State → Prop} (hy : plainName y.cls = true) (hn : (lg_sl av).length ≤ nL)
    (body : ∀ (p : Program) (e : Env) (s : State) (m : MethodId) (args : Array Value) (below : List Frame) (meth : Method) (c : Code) (A : Nat → Prop), Cx p s m args meth c y.cls cc nL ret → s.methodNamed? y = some m → (y.name = "<init>" → meth.name = "<init>") → (∀ q : Nat, s.heap.size ≤ q → A q) → va_K G.1 CL (TYS G) s → KS G A s s.heap → va_P G.1 CL ws s.heap → va_D A ws → ∀ ls : Array Slot, lv_has ls nL (lv_args 0 av) →
      W p l e rm s m args below meth c s.heap [] 0 0 (MQ below (Qf A) args s rm.cells rm.slots A) (F0 m 0 ls [])) : MM l G y cc nL ret rm av ws Qf := by
  intro sz
  refine Met.ofW (cc := cc) (maxL := nL) (ret := ret) hy rfl ?_
  intro p e s m args below meth c s₁ B hml hv
  obtain ⟨rfl, hsz, hP, hK, hZ, hD0⟩ := hv
  subst hsz
  have hts := atoms_spec (ws := ws_ y cc nL ret) B.pre
  have hl := lv_entry av (n := nL) hn
  rw [lg_entry_eq]
  refine body p e s m av.toArray below meth c (va_A ws s.heap.size) ⟨B.exec, B.bytes, B.returns, fun w h => hts w (List.mem_cons_of_mem _ h), findClass_of_methodNamed B.named, B.notSynchronized, hml⟩ B.named (fun h => (name_of_methodNamed B.named B.method).1.trans h) (fun q h => Or.inr h) hK hZ hP (hD0.self) _ hl
theorem MX.ofN {l : Launch} {G : GG} {y : MethodName} {cc : ByteArray} {nL : Nat} {ret : Option FieldType} {rm : Room} {av : List Value} {ws : va_W} {Qf : (Nat → Prop) → Array Value → State → Outcome → State → Prop} {Xf : (Nat → Prop) → Addr → String → State → State → Prop} (hy : plainName y.cls = true) (hn : (lg_sl av).length ≤ nL)
    (body : ∀ (p : Program) (e : Env) (s : State) (m : MethodId) (args : Array Value) (below : List Frame) (meth : Method) (c : Code) (A : Nat → Prop), Cx p s m args meth c y.cls cc nL ret → s.methodNamed? y = some m → (y.name = "<init>" → meth.name = "<init>") → (∀ q : Nat, s.heap.size ≤ q → A q) → va_K G.1 CL (TYS G) s → KS G A s s.heap → va_P G.1 CL ws s.heap → va_D A ws → c.exceptionTable.toList = [] → ∀ ls : Array Slot, lv_has ls nL (lv_args 0 av) →
      W p l e rm s m args below meth c s.heap [] 0 0 (vx_MQ below (Qf A) (Xf A) args s rm.cells rm.slots A) (F0 m 0 ls [])) : MX l G y cc nL ret rm av ws Qf Xf := by
  intro sz
  refine vx_ofW (cc := cc) (maxL := nL) (ret := ret) hy rfl ?_
  intro p e s m args below meth c s₁ B hml ht hv
  obtain ⟨rfl, hsz, hP, hK, hZ, hD0⟩ := hv
  subst hsz
  have hts := atoms_spec (ws := ws_ y cc nL ret) B.pre
  have hl := lv_entry av (n := nL) hn
  rw [lg_entry_eq]
  exact body p e s m av.toArray below meth c (va_A ws s.heap.size) ⟨B.exec, B.bytes, B.returns, fun w h => hts w (List.mem_cons_of_mem _ h), findClass_of_methodNamed B.named, B.notSynchronized, hml⟩ B.named (fun h => (name_of_methodNamed B.named B.method).1.trans h) (fun q h => Or.inr h) hK hZ hP (hD0.self) (List.eq_nil_iff_forall_not_mem.mpr (fun x hx => ht x hx)) _ hl
