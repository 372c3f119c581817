/-! ===== exceptions of our own ===== -/
def vy_at (own : String) (ic : Nat) (cls : String) (names : List String) (rc : String) (n9 : Nat) : List Cond :=
  Bundle.throwableAtoms ++ Bundle.chain0Atoms cls names ++
  [.methodLink own ic (Bundle.init0 cls), .instantiable rc n9, .selects rc Bundle.tFill0 Bundle.tFill0, .selects rc Bundle.tFill Bundle.tFill,
   .lays rc Bundle.tN "cause" "Ljava/lang/Throwable;", .lays rc Bundle.tN "stackTrace" Bundle.steD, .lays rc Bundle.tN "suppressedExceptions" Bundle.listD, .lays rc Bundle.tN "detailMessage" "Ljava/lang/String;",
   .isRef (.static Bundle.tN "UNASSIGNED_STACK" Bundle.steD), .isRef (.static Bundle.tN "SUPPRESSED_SENTINEL" Bundle.listD),
   .fieldLink Bundle.tN 198 Bundle.tN "backtrace" "Ljava/lang/Object;", .lays Bundle.tN Bundle.tN "backtrace" "Ljava/lang/Object;", .lays rc Bundle.tN "backtrace" "Ljava/lang/Object;"]
section VYS
variable {p : Program} {l : Launch} {e : Env} {R : Room} {s : State} {m₀ : MethodId} {args : Array Value} {below : List Frame} {meth : Method} {c : Code} {W : State} {locs : List Loc} {cells slots : Nat}
set_option maxHeartbeats 1000000 in
theorem vy_super0 (X : Stand p l e R s m₀ args below meth c W locs cells slots) (hexec : p.tables.exec = Jvm.exec) (htr : e.platform.stackTraces = false) {own cls rc : String} {names : List String} {ic n9 : Nat}
    (hown : s.vm.findClass own = some m₀.cls) (hcls : Bundle.fit cls = true) (hnames : ∀ n ∈ names, Bundle.fit n = true)
    (h : ∀ a ∈ vy_at own ic cls names rc n9, a.before args s = true)
    (hlocs : ∀ x ∈ locs, ∀ cell, s.heap[x.base]? = some cell → cell.vm.isStatics = false)
    {a : Addr} {cX : ClassId} {kX : Class} (hfoundX : s.vm.findClass rc = some cX) (hkX : s.vm.classes[cX]? = some kX) (hcell : W.heap[a]? = some (freshCell cX kX))
    {g : JFrame} (hg : g.method = m₀) (hsize : g.locals.size = c.maxLocals) {rest : List Value} (hstack : g.stack = .ref a :: rest)
    (hd6 : decode c.code g.pc = .ok (.invokespecial ic, 3))
    (hRframes : names.length + 3 < R.frames) (hRlocals : 2 * g.monitorRoom + (rest.map fun v => v.category).sum + (13 * (names.length + 1) + 41) ≤ R.locals) :
    ∃ (V : State) (ce : Cell) (L : List Loc), Stand p l e R s m₀ args below meth c (V.setCell a ce) (locs ++ L) cells slots ∧ (∀ y ∈ L, y.base = a) ∧ a < V.heap.size ∧ ce.cls = cX ∧ ce.vm = .none ∧ V.heap = W.heap ∧ ce.slots.size = (freshCell cX kX).slots.size ∧
      ∀ target, Steps p.tables e below ((V.setCell a ce).setTop { g with stack := rest, pc := g.pc + 3 }) target → Steps p.tables e below (W.setTop g) target := by
  have howns : e.platform.frameOwnsMonitors = true := by rw [X.admits.platform]
  have hfin : e.platform.finalization = false := by rw [X.admits.platform]
  have hpl : e.platform.magicAccessors = ({} : Platform).magicAccessors := by rw [X.admits.platform]
  have a' : ∀ x, x ∈ vy_at own ic cls names rc n9 → x.holds args s none s [] = true := fun x hx => h x hx
  obtain ⟨T, Z, L, LZ, Y⟩ := ThrowableC.of_atoms (args := args) howns hfin hpl (fun x hx => h x (by simp [vy_at, hx]))
  obtain ⟨P1, Ps, hlen, L1, hL, hP1m, hlink1, hlink⟩ := Bundle.chain0 (args := args) hpl Y.init0 names cls hcls hnames (fun x hx => h x (by simp [vy_at, hx]))
  obtain ⟨c1, kX', hc1, hk, hord, -, -, hn6⟩ := Cond.instantiable_spec (a' (.instantiable rc n9) (by simp [vy_at]))
  cases Option.some.inj (hc1.symm.trans hfoundX)
  cases Option.some.inj (hkX.symm.trans hk)
  have hsel0 : selectMethod e.platform s.vm cX T.fill0 = .method T.fill0 := by
    obtain ⟨c2, r2, m2, q1, q2, q3, q4, -⟩ := Cond.selects_spec (a' (.selects rc Bundle.tFill0 Bundle.tFill0) (by simp [vy_at]))
    cases Option.some.inj (q1.symm.trans hfoundX)
    cases Option.some.inj (q2.symm.trans (State.methodFound?_of_named Y.fill0 (by decide)))
    cases Option.some.inj (q3.symm.trans Y.fill0)
    rw [Launch.admits_selectMethod X.admits]; exact q4
  have hselF : selectMethod e.platform s.vm cX T.fill = .method T.fill := by
    obtain ⟨c2, r2, m2, q1, q2, q3, q4, -⟩ := Cond.selects_spec (a' (.selects rc Bundle.tFill Bundle.tFill) (by simp [vy_at]))
    cases Option.some.inj (q1.symm.trans hfoundX)
    cases Option.some.inj (q2.symm.trans (State.methodFound?_of_named Y.fill (by decide)))
    cases Option.some.inj (q3.symm.trans Y.fill)
    rw [Launch.admits_selectMethod X.admits]; exact q4
  obtain ⟨cellS0, hcS0, hiss⟩ := Y.statics
  obtain ⟨u0, hu0⟩ := Cond.staticRefV Y.unassigned L.unassignedStatic L.statics hcS0 hiss (a' (.isRef (.static Bundle.tN "UNASSIGNED_STACK" Bundle.steD)) (by simp [vy_at]))
  obtain ⟨sen, hsen⟩ := Cond.staticRefV Y.sentinel L.sentinelStatic L.statics hcS0 hiss (a' (.isRef (.static Bundle.tN "SUPPRESSED_SENTINEL" Bundle.listD)) (by simp [vy_at]))
  obtain ⟨ci198, i198, fB, hk198, hg198, ha198, hsB, -, hnB, htB, hffB⟩ := Cond.ownField (t := .object "java/lang/Object") Y.found L.cls (by decide +kernel) (a' (.fieldLink Bundle.tN 198 Bundle.tN "backtrace" "Ljava/lang/Object;") (by simp [vy_at])) (a' (.lays Bundle.tN Bundle.tN "backtrace" "Ljava/lang/Object;") (by simp [vy_at])) e.platform hpl
  obtain ⟨cellS, hcS', heS, -, hkeep⟩ := X.same.2.2.2.2.2 T.aS cellS0 hcS0
  have hcellS : W.heap[T.aS]? = some cellS := hcS'
  have hout' : ∀ i, (⟨T.aS, i⟩ : Loc) ∉ locs := fun i hmem => by
    have := hlocs _ hmem cellS0 hcS0
    rw [hiss] at this; cases this
  have hknownS : cellS.vm ≠ .unknown := by
    rw [heS]; intro hu
    rw [show cellS0.vm = .unknown from hu] at hiss
    cases hiss
  have hneS : T.aS ≠ a := fun e9 => by
    have h1 : W.heap[a]? = some cellS := by rw [← e9]; exact hcellS
    rw [hcell] at h1
    have h2 : freshCell cX kX = cellS := Option.some.inj h1
    have h3 : cellS.vm = cellS0.vm := by rw [heS]
    rw [← h2] at h3
    have h4 : (freshCell cX kX).vm = .none := rfl
    rw [← h3, h4] at hiss
    cases hiss
  obtain ⟨iM, hffM⟩ := Y.msg
  obtain ⟨tyC, dC, hdC, hdnC⟩ := Cond.laysAt hfoundX hk Y.cause (a' (.lays rc Bundle.tN "cause" "Ljava/lang/Throwable;") (by simp [vy_at]))
  obtain ⟨tyS, dS, hdS, hdnS⟩ := Cond.laysAt hfoundX hk Y.stack (a' (.lays rc Bundle.tN "stackTrace" Bundle.steD) (by simp [vy_at]))
  obtain ⟨tyP, dP, hdP, hdnP⟩ := Cond.laysAt hfoundX hk Y.supp (a' (.lays rc Bundle.tN "suppressedExceptions" Bundle.listD) (by simp [vy_at]))
  obtain ⟨tyM, dM, hdM, hdnM⟩ := Cond.laysAt hfoundX hk hffM (a' (.lays rc Bundle.tN "detailMessage" "Ljava/lang/String;") (by simp [vy_at]))
  obtain ⟨tyB, dB, hdB, hdnB⟩ := Cond.laysAt hfoundX hk hffB (a' (.lays rc Bundle.tN "backtrace" "Ljava/lang/Object;") (by simp [vy_at]))
  have bC := Cond.laysApart hdB hdC hdnB hdnC (by rw [hnB, Y.causeName]; decide)
  have bS := Cond.laysApart hdB hdS hdnB hdnS (by rw [hnB, Y.stackName]; decide)
  have bP := Cond.laysApart hdB hdP hdnB hdnP (by rw [hnB, Y.suppName]; decide)
  have hskip : SkipFacts T e.platform s (fun u => u) u0 ((preparedCellV T.toThrowableT (freshCell cX kX) a u0 sen).withEntry W.cur) :=
    ⟨{ ci198 := ci198, i198 := i198, fBack := fB }, ⟨hk198, hg198, ha198, hsB⟩, by
      have := fresh_default (c := cX) tyB
      rw [htB] at this
      simpa [preparedCellV, Cell.setSlot, Cell.withEntry, Array.getElem?_setIfInBounds, bC, bS, bP, bC.symm, bS.symm, bP.symm, defaultValue] using this, fun _ _ => rfl⟩
  obtain ⟨tm, methC, cdC, kC, vm₁, hnC, -, -, -, -, -, -, -, hW₁, st1⟩ := Steps.initCold (tb := p.tables) (e := e) (below := below) (s := s) (U := W) X.here hexec X.warmed hpl hown (t := Bundle.init0 cls) rfl rfl (Bundle.fit_spec hcls).2
    (a' (.methodLink own ic (Bundle.init0 cls)) (by simp [vy_at])) (h (.instanceMethod (Bundle.init0 cls)) (by cases names <;> simp [vy_at, Bundle.chain0Atoms, Bundle.passAtoms])) (bytes := Bundle.five) (maxL := 1) (h (.code (Bundle.init0 cls) Bundle.five 1 none) (by cases names <;> simp [vy_at, Bundle.chain0Atoms, Bundle.passAtoms]))
    (f := g) hg (a := a) (rest := rest) hstack hd6
  cases Option.some.inj (hnC.symm.trans hP1m)
  have X₁ := X.noted hW₁
  obtain ⟨vm₂, X₂, st2⟩ := X₁.ctorPlainOffV hexec (g := { g with stack := rest }) hg hsize T L Z LZ (P1 :: Ps)
    (fun P hP => by rcases List.mem_cons.mp hP with rfl | hP; exact L1; exact hL P hP) ⟨hlink1, hlink⟩ (u0 := u0) (sen := sen) (self := a) (cell := freshCell cX kX) (cellS := cellS)
    hcell (fun _ => by simp) (by simp) rfl rfl hsel0 hselF hcellS hneS hknownS (by rw [hkeep _ (hout' _)]; exact hu0) (by rw [hkeep _ (hout' _)]; exact hsen)
    (Takes.of_laid hk hord tyC (by rw [Y.causeType]; rfl)) (Takes.of_laid hk hord tyS (by rw [Y.stackType]; exact fits_refV_array _ u0)) (Takes.of_laid hk hord tyP (by rw [Y.suppType]; exact fits_refV_object _ sen)) Y.objLocals hskip htr [] hd6
    (by simp only [List.length_cons, hlen]; omega) (by simp only [List.length_cons, hlen]; exact hRlocals)
  have hlt : a < ((W.setVm vm₁).setVm vm₂).heap.size := (Array.getElem?_eq_some_iff.mp hcell).1
  refine ⟨(W.setVm vm₁).setVm vm₂, _, _, X₂, fun y hy => ?_, hlt, rfl, rfl, rfl, by simp [preparedCellV, Cell.setSlot], fun target hwalk => st1 _ (fun acts => ?_)⟩
  · simp only [List.mem_cons, List.not_mem_nil, or_false] at hy
    rcases hy with rfl | rfl | rfl | rfl <;> rfl
  · rw [doInvoke_state]
    exact st2 _ hwalk
end VYS
section VYR
variable {p : Program} {l : Launch} {e : Env} {R : Room} {s : State} {m : MethodId} {args : Array Value} {below : List Frame} {meth : Method} {c : Code} {H : Heap} {locs : List Loc} {cells slots : Nat} {Q : State → Prop} {cc : ByteArray} {pc : Nat} {ls : Array Slot} {rest : List Value} {G : GG} {A : Nat → Prop}
theorem hn_empty : ∀ x ∈ ([] : List Loc), ∀ cell, s.heap[x.base]? = some cell → cell.vm.isStatics = false := fun x hx => nomatch hx
/-- super() of a library's exception, on an object of ours that is fresh -/
theorem sup_row (hx : p.tables.exec = Jvm.exec) (hb : c.code = cc) (hl : l.stackTraces = false) {own cls rc : String} {names : List String} {ic n9 a : Nat} (hown : s.vm.findClass own = some m.cls) (hcls : Bundle.fit cls = true) (hnames : ∀ n ∈ names, Bundle.fit n = true)
    (hts : ∀ w ∈ lw_all, w.before args s = true) (hZ : KS G A s s.heap) (ps : List Nat) (hp9 : (vy_at own ic cls names rc n9).filter vx_no = ps.filterMap (fun i => lw_tbl[i]?)) (hg9 : ((vy_at own ic cls names rc n9).filter vx_no).all (fun w => goodWord w || nwOk w) = true)
    {cC : ClassId} {kC : Class} (hfc : s.vm.findClass rc = some cC) (hkC : s.vm.classes[cC]? = some kC) (hcell : s.heap[a]? = some (blank cC kC)) (hsize : ls.size = c.maxLocals) (hd : decode cc pc = .ok (.invokespecial ic, 3))
    (hRf : names.length + 3 < R.frames) (hRl : (rest.map fun v => v.category).sum + (13 * (names.length + 1) + 41) ≤ R.locals)
    (kk : ∀ (H1 : Heap) (locs1 : List Loc) (ce : Cell), H1[a]? = some ce → ce.cls = cC → ce.vm = .none → ce.slots.size = (blank cC kC).slots.size → H1.size = s.heap.size → (∀ q : Nat, q ≠ a → H1[q]? = s.heap[q]?) → (∀ z ∈ locs1, z.base = a) → W p l e R s m args below meth c H1 locs1 cells slots Q (F0 m (pc + 3) ls rest)) :
    W p l e R s m args below meth c s.heap [] cells slots Q (F0 m pc ls (.ref a :: rest)) := by
  intro T hT X
  have htr : e.platform.stackTraces = false := (show e.platform.stackTraces = l.stackTraces by rw [X.admits.platform]).trans hl
  have h : ∀ w ∈ vy_at own ic cls names rc n9, w.before args s = true := vx_own (hZ.all hts ps hp9 hg9) (vx_isRefq hZ.zU.1) (vx_isRefq hZ.zN.1) hZ.zU.2.word hZ.zN.2.word
  obtain ⟨V, ce, L, X2, hL, hlt, h1, h2, h3, h4, st⟩ := vy_super0 X hx htr (own := own) (cls := cls) (rc := rc) (names := names) (ic := ic) (n9 := n9) hown hcls hnames h (fun x hx => nomatch hx) hfc hkC (a := a) (by rw [hT]; exact hcell)
    (g := F0 m pc ls (.ref a :: rest)) rfl hsize (rest := rest) rfl (by rw [hb]; exact hd) hRf (by show 2 * 0 + _ + _ ≤ _; omega)
  obtain ⟨t, a1, b1⟩ := kk (V.setCell a ce).heap ([] ++ L) ce (heapAt_setCell_self (s := V) ce hlt) h1 h2 h4 (by rw [size_setCell, h3, hT]) (fun q hq => by rw [heapAt_setCell_ne _ (Ne.symm hq), h3, hT]) (fun z hz => hL z (by simpa using hz)) _ rfl X2
  exact ⟨t, st t a1, b1⟩
/-- 'new' of an object whose class has more fields than the world tells of: it is fresh -/
theorem new9 (hx : p.tables.exec = Jvm.exec) (hb : c.code = cc) {own C : String} {T : u_T} {N n9 ci index : Nat} (hts : ∀ w ∈ lw_all, w.before args s = true) (hin : ∀ w ∈ u_ws C T N, w ∈ lw_all) (ty : Nat → FieldType) (hty : ∀ k, k < N → parseFieldDescriptor (T k).2.2.1 = some (ty k)) (hown : s.vm.findClass own = some m.cls) (hcl : Cond.classLink own index C ∈ lw_all) (hinst : Cond.instantiable C n9 ∈ lw_all) (hini : Cond.initialized C ∈ lw_all)
    {ws : va_W} (hK : va_K G.1 CL (TYS G) s) (hP : va_P G.1 CL ws H) (hD : va_D A ws) (hS : va_S A s.heap H locs) (hA : ∀ q, s.heap.size ≤ q → A q) (hc : CL[ci]? = some (C, T, N)) {fs : List Value} (hfs : ∀ j, j < N → defaultValue (ty j) = vp_V fs j) (hcells : cells + 1 ≤ R.cells) (hslots : slots + n9 ≤ R.slots) (hdg : decode cc pc = .ok (.new index, 3))
    (kk : ∀ (q : Nat) (H1 : Heap) (kC : Class), va_P G.1 CL (ws ++ [(q, .inr (ci, fs))]) H1 → va_D A (ws ++ [(q, .inr (ci, fs))]) → va_S A s.heap H1 locs → s.vm.classes[G.1.1 ci]? = some kC → H1[q]? = some (blank (G.1.1 ci) kC) → W p l e R s m args below meth c H1 locs (cells + 1) (slots + n9) Q (F0 m (pc + 3) ls (.ref q :: rest))) : W p l e R s m args below meth c H locs cells slots Q (F0 m pc ls rest) := by
  have hKn := hK.1 ci _ hc
  refine W.newcK hx hb hown (hts _ hcl) (hts _ hinst) (hts _ hini) rfl hdg hcells hslots hKn.2.1 rfl fun H1 kC hkC e1 z1 o1 => ?_
  have hk : ∀ (k : Nat) (x : Nat × va_E), ws[k]? = some x → H1[x.1]? = H[x.1]? := fun k x hx => o1 x.1 ((hP k x hx).lt)
  refine kk H.size H1 kC ((hP.kept hk).app (fun k x hx => ?_)) (hD.push hP rfl (hA _ hS.1)) ⟨Nat.le_trans hS.1 (by omega), fun x h1 h2 => (o1 x (Nat.lt_of_lt_of_le h1 hS.1)).trans (hS.2.1 x h1 h2), hS.2.2⟩ hkC e1
  have hz : k < 1 := (List.getElem?_eq_some_iff.mp hx).1
  rw [show k = 0 by omega] at hx
  cases hx
  exact ⟨_, hc, (u_born ty hts hin hKn hkC e1 hty).to hfs⟩
end VYR
/-- a constructor's start: the object is fresh -/
def PreF (G : GG) (av : List Value) (ws : va_W) (sz a ci : Nat) : Array Value → State → Prop := fun v U => Pre G av ws sz v U ∧ ∃ kC : Class, U.vm.classes[G.1.1 ci]? = some kC ∧ U.heap[a]? = some (blank (G.1.1 ci) kC)
theorem PreF.blind (G : GG) (av : List Value) (ws : va_W) (sz a ci : Nat) : FrameBlind (PreF G av ws sz a ci) := fun a9 U g mk q => ⟨Pre.blind G av ws sz a9 U g mk q.1, q.2⟩
theorem ob_any {D : va_G} {a ci : Nat} {r : vw_C} {H H1 : Heap} {fs : List Value} {ce ce0 : Cell} (hc : CL[ci]? = some r) (hP : va_at D CL (a, .inr (ci, fs)) H) (h0 : H[a]? = some ce0) (h1 : H1[a]? = some ce) (hcl : ce.cls = D.1 ci) (hv : ce.vm = .none) (hs : ce.slots.size = ce0.slots.size) : ∃ V : Nat → Value, ∀ ws' : List Value, (∀ k, k < r.2.2 → vp_V ws' k = V k) → va_at D CL (a, .inr (ci, ws')) H1 := by
  obtain ⟨r', hr', cell, g1, g2, g3, g4⟩ := hP
  cases hr'.symm.trans hc
  cases Option.some.inj (g1.symm.trans h0)
  refine ⟨fun k => ce.slots.getD (D.2 ci k) .null, fun ws' hw => ⟨_, hc, ce, h1, hcl, hv, fun k hk => ?_⟩⟩
  have h2 := g4 k hk
  have h3 : D.2 ci k < ce.slots.size := by rw [hs]; exact (Array.getElem?_eq_some_iff.mp h2).1
  rw [hw k hk, Array.getElem?_eq_getElem h3]
  simp [h3]
set_option maxHeartbeats 4000000 in
set_option maxRecDepth 100000 in
theorem f_X6_init (l : Launch) (G : GG) (hst : l.stackTraces = false) (a : Nat) (r0 : Int32) (d0 : Int32) (fs : List Value) (hfs : fs.length = 2) : ∀ sz : Nat, Met l yX6_init (ws_ yX6_init cX6_init 3 none) ⟨4, 0, 0, 58⟩ (PreF G [.ref a, .int r0, .int d0] [(a, .inr (5, fs))] sz a 5) (Qv_ G (fun (_ : Unit) => True) (fun (_ : Unit) => [(a, .inr (5, [.int r0, .int d0]))]) (va_A [(a, .inr (5, fs))] sz)) 0 0 (va_A [(a, .inr (5, fs))] sz) := by
  intro sz
  refine Met.ofW (cc := cX6_init) (maxL := 3) (ret := none) (by decide) rfl ?_
  intro p e s m args below meth c s₁ B hml hv
  obtain ⟨⟨rfl, hsz, hP, hK, hZ, hD0⟩, kC, hkC, hce0⟩ := hv
  subst hsz
  have hts0 := atoms_spec (ws := ws_ yX6_init cX6_init 3 none) B.pre
  have hts : ∀ w ∈ lw_all, w.before _ s = true := fun w h => hts0 w (List.mem_cons_of_mem _ h)
  have hl := lv_entry [.ref a, .int r0, .int d0] (n := 3) (Nat.le_of_ble_eq_true rfl)
  rw [lg_entry_eq]
  have hown : s.vm.findClass RX6 = some m.cls := findClass_of_methodNamed B.named
  have hx := B.exec
  have hb : c.code = cX6_init := B.bytes
  have hini : meth.name = "<init>" := (name_of_methodNamed B.named B.method).1
  have hcid : s.vm.findClass RX6 = some (G.1.1 5) := (hK.1 5 _ rfl).2.1
  generalize hA : va_A [(a, .inr (5, fs))] s.heap.size = A at *
  have hDA : va_D A [(a, .inr (5, fs))] := by rw [← hA]; exact hD0.self
  have hl : lv_has _ 3 [(0, .ref a), (1, .int r0), (2, .int d0)] := hl
  refine lv_aload_n hx hb dX6_init_0 rfl (lv_at hl 0 rfl) ?_
  refine sup_row hx hb hst (own := RX6) (cls := "java/lang/Exception") (rc := RX6) (names := []) (ic := 1) (n9 := 8) hown (by decide) (by decide) hts hZ [98, 335, 344, 355, 358, 360, 336, 337, 129, 130, 338, 343, 356, 376, 325, 377, 327, 378, 329, 339, 341, 331, 664, 665, 666, 336, 320, 1228, 1217, 1219, 347, 1220, 1221, 1222, 1223, 334, 333, 1224] (by decide +kernel) (by decide +kernel) hcid hkC hce0 (by rw [hml]; exact hl.1) dX6_init_1 (Nat.le_of_ble_eq_true rfl) (Nat.le_of_ble_eq_true rfl) (fun H1 locs1 ce q1 q2 q3 q4 q5 q6 q7 => ?_)
  obtain ⟨V, hV⟩ := ob_any (ci := 5) (r := (RY6, TY6, 2)) rfl (hP 0 _ rfl) hce0 q1 q2 q3 q4
  have hP : va_P G.1 CL [(a, .inr (5, [V 0, V 1]))] H1 := fun k q hk => by
    have hz : k < 1 := (List.getElem?_eq_some_iff.mp hk).1
    rw [show k = 0 by omega] at hk
    cases hk
    exact hV _ (fun k hk => by rcases (show k = 0 ∨ k = 1 by have : k < 2 := hk; omega) with rfl | rfl <;> rfl)
  have hAa : A a := hDA.2 0 _ rfl
  have hD : va_D A [(a, .inr (5, [V 0, V 1]))] := ⟨fun i j x y hi hj _ => by
    have h1 : i < 1 := (List.getElem?_eq_some_iff.mp hi).1
    have h2 : j < 1 := (List.getElem?_eq_some_iff.mp hj).1
    omega, fun k q hk => by
    have h1 : k < 1 := (List.getElem?_eq_some_iff.mp hk).1
    rw [show k = 0 by omega] at hk
    cases hk
    exact hAa⟩
  have hS : va_S A s.heap H1 locs1 := ⟨by omega, fun q h1 h2 => q6 q (fun z => h2 (by rw [z]; exact hAa)), fun z hz => by rw [q7 z hz]; exact hAa⟩
  refine lv_aload_n hx hb dX6_init_4 rfl (lv_at hl 0 rfl) ?_
  refine lv_iload_n hx hb dX6_init_5 rfl (lv_at hl 1 rfl) ?_
  refine va_putF (D := G.1) (ci := 5) (v := .int r0) (ty := .int) (C := RY6) (T := TY6) (N := 2) hx hb hts in_Y6 tyY6 tyY6_ok nmY6 hown hK hP hD hS 0 rfl rfl 0 (by decide) (hts _ q1229) (fun _ h9 => h9) rfl hini rfl (by decide +kernel) rfl rfl (Nat.le_of_ble_eq_true rfl) dX6_init_6 (fun H1 locs1 hP hD hS => ?_)
  have hP : va_P G.1 CL [(a, .inr (5, [.int r0, V 1]))] H1 := hP
  have hD : va_D A [(a, .inr (5, [.int r0, V 1]))] := hD
  refine lv_aload_n hx hb dX6_init_9 rfl (lv_at hl 0 rfl) ?_
  refine lv_iload_n hx hb dX6_init_10 rfl (lv_at hl 2 rfl) ?_
  refine va_putF (D := G.1) (ci := 5) (v := .int d0) (ty := .int) (C := RY6) (T := TY6) (N := 2) hx hb hts in_Y6 tyY6 tyY6_ok nmY6 hown hK hP hD hS 0 rfl rfl 1 (by decide) (hts _ q1231) (fun _ h9 => h9) rfl hini rfl (by decide +kernel) rfl rfl (Nat.le_of_ble_eq_true rfl) dX6_init_11 (fun H1 locs1 hP hD hS => ?_)
  have hP : va_P G.1 CL [(a, .inr (5, [.int r0, .int d0]))] H1 := hP
  have hD : va_D A [(a, .inr (5, [.int r0, .int d0]))] := hD
  exact ret_v hx hb B.returns B.notSynchronized () trivial hP hD hS dX6_init_14
set_option maxHeartbeats 4000000 in
set_option maxRecDepth 100000 in
theorem f_X8_init (l : Launch) (G : GG) (hst : l.stackTraces = false) (a : Nat) (r0 : Int32) (fs : List Value) (hfs : fs.length = 1) : ∀ sz : Nat, Met l yX8_init (ws_ yX8_init cX8_init 2 none) ⟨5, 0, 0, 71⟩ (PreF G [.ref a, .int r0] [(a, .inr (7, fs))] sz a 7) (Qv_ G (fun (_ : Unit) => True) (fun (_ : Unit) => [(a, .inr (7, [.int r0]))]) (va_A [(a, .inr (7, fs))] sz)) 0 0 (va_A [(a, .inr (7, fs))] sz) := by
  intro sz
  refine Met.ofW (cc := cX8_init) (maxL := 2) (ret := none) (by decide) rfl ?_
  intro p e s m args below meth c s₁ B hml hv
  obtain ⟨⟨rfl, hsz, hP, hK, hZ, hD0⟩, kC, hkC, hce0⟩ := hv
  subst hsz
  have hts0 := atoms_spec (ws := ws_ yX8_init cX8_init 2 none) B.pre
  have hts : ∀ w ∈ lw_all, w.before _ s = true := fun w h => hts0 w (List.mem_cons_of_mem _ h)
  have hl := lv_entry [.ref a, .int r0] (n := 2) (Nat.le_of_ble_eq_true rfl)
  rw [lg_entry_eq]
  have hown : s.vm.findClass RX8 = some m.cls := findClass_of_methodNamed B.named
  have hx := B.exec
  have hb : c.code = cX8_init := B.bytes
  have hini : meth.name = "<init>" := (name_of_methodNamed B.named B.method).1
  have hcid : s.vm.findClass RX8 = some (G.1.1 7) := (hK.1 7 _ rfl).2.1
  generalize hA : va_A [(a, .inr (7, fs))] s.heap.size = A at *
  have hDA : va_D A [(a, .inr (7, fs))] := by rw [← hA]; exact hD0.self
  have hl : lv_has _ 2 [(0, .ref a), (1, .int r0)] := hl
  refine lv_aload_n hx hb dX8_init_0 rfl (lv_at hl 0 rfl) ?_
  refine sup_row hx hb hst (own := RX8) (cls := "java/lang/RuntimeException") (rc := RX8) (names := ["java/lang/Exception"]) (ic := 1) (n9 := 7) hown (by decide) (by decide) hts hZ [98, 335, 344, 355, 358, 360, 336, 337, 129, 130, 338, 343, 356, 376, 325, 377, 327, 378, 329, 339, 341, 331, 661, 662, 663, 664, 318, 664, 665, 666, 336, 320, 1593, 1582, 1584, 346, 1585, 1586, 1587, 1588, 334, 333, 1589] (by decide +kernel) (by decide +kernel) hcid hkC hce0 (by rw [hml]; exact hl.1) dX8_init_1 (Nat.le_of_ble_eq_true rfl) (Nat.le_of_ble_eq_true rfl) (fun H1 locs1 ce q1 q2 q3 q4 q5 q6 q7 => ?_)
  obtain ⟨V, hV⟩ := ob_any (ci := 7) (r := (RY8, TY8, 1)) rfl (hP 0 _ rfl) hce0 q1 q2 q3 q4
  have hP : va_P G.1 CL [(a, .inr (7, [V 0]))] H1 := fun k q hk => by
    have hz : k < 1 := (List.getElem?_eq_some_iff.mp hk).1
    rw [show k = 0 by omega] at hk
    cases hk
    exact hV _ (fun k hk => by have : k = 0 := by (have : k < 1 := hk; omega)
                               subst this; rfl)
  have hAa : A a := hDA.2 0 _ rfl
  have hD : va_D A [(a, .inr (7, [V 0]))] := ⟨fun i j x y hi hj _ => by
    have h1 : i < 1 := (List.getElem?_eq_some_iff.mp hi).1
    have h2 : j < 1 := (List.getElem?_eq_some_iff.mp hj).1
    omega, fun k q hk => by
    have h1 : k < 1 := (List.getElem?_eq_some_iff.mp hk).1
    rw [show k = 0 by omega] at hk
    cases hk
    exact hAa⟩
  have hS : va_S A s.heap H1 locs1 := ⟨by omega, fun q h1 h2 => q6 q (fun z => h2 (by rw [z]; exact hAa)), fun z hz => by rw [q7 z hz]; exact hAa⟩
  refine lv_aload_n hx hb dX8_init_4 rfl (lv_at hl 0 rfl) ?_
  refine lv_iload_n hx hb dX8_init_5 rfl (lv_at hl 1 rfl) ?_
  refine va_putF (D := G.1) (ci := 7) (v := .int r0) (ty := .int) (C := RY8) (T := TY8) (N := 1) hx hb hts in_Y8 tyY8 tyY8_ok nmY8 hown hK hP hD hS 0 rfl rfl 0 (by decide) (hts _ q1594) (fun _ h9 => h9) rfl hini rfl (by decide +kernel) rfl rfl (Nat.le_of_ble_eq_true rfl) dX8_init_6 (fun H1 locs1 hP hD hS => ?_)
  have hP : va_P G.1 CL [(a, .inr (7, [.int r0]))] H1 := hP
  have hD : va_D A [(a, .inr (7, [.int r0]))] := hD
  exact ret_v hx hb B.returns B.notSynchronized () trivial hP hD hS dX8_init_9
