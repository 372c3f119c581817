/-! ===== base 3: blocks, words out of the start, contracts that return or throw ===== -/
def cat : List va_W → va_W
  | [] => []
  | [b] => b
  | b :: b2 :: bs => b ++ cat (b2 :: bs)
theorem cat_flat : ∀ bs : List va_W, cat bs = bs.flatten
  | [] => rfl
  | [b] => by simp [cat]
  | b :: b2 :: bs => by rw [cat, cat_flat (b2 :: bs)]; rfl
theorem P_mem {D : va_G} {cl : List vw_C} {ws : va_W} {H : Heap} : va_P D cl ws H ↔ ∀ q ∈ ws, va_at D cl q H := by
  constructor
  · intro h q hq
    obtain ⟨k, hk⟩ := List.mem_iff_getElem?.mp hq
    exact h k q hk
  · intro h k q hk
    exact h q (List.mem_of_getElem? hk)
theorem D_mem {A : Nat → Prop} {ws : va_W} : va_D A ws ↔ ws.Pairwise (fun p q => p.1 ≠ q.1) ∧ ∀ q ∈ ws, A q.1 := by
  constructor
  · intro h
    refine ⟨?_, fun q hq => ?_⟩
    · rw [List.pairwise_iff_getElem]
      intro i j hi hj hij e
      have := h.1 i j _ _ (List.getElem?_eq_getElem hi) (List.getElem?_eq_getElem hj) e
      omega
    · obtain ⟨k, hk⟩ := List.mem_iff_getElem?.mp hq
      exact h.2 k q hk
  · rintro ⟨h1, h2⟩
    rw [List.pairwise_iff_getElem] at h1
    refine ⟨fun i j p q hi hj e => ?_, fun k q hk => h2 q (List.mem_of_getElem? hk)⟩
    obtain ⟨li, ei⟩ := List.getElem?_eq_some_iff.mp hi
    obtain ⟨lj, ej⟩ := List.getElem?_eq_some_iff.mp hj
    rcases Nat.lt_trichotomy i j with h | h | h
    · exact absurd (by rw [ei, ej]; exact e) (h1 i j li lj h)
    · exact h
    · exact absurd (by rw [ei, ej]; exact e.symm) (h1 j i lj li h)
/-- other blocks, or fewer, of the same world -/
theorem cut_B {D : va_G} {cl : List vw_C} {A : Nat → Prop} {H : Heap} {bs bs' : List va_W} (hP : va_P D cl (cat bs) H) (hD : va_D A (cat bs)) (is : List Nat) (hn : va_nd is = true) (hs : is.map (fun i => bs[i]?) = bs'.map some) : va_P D cl (cat bs') H ∧ va_D A (cat bs') := by
  have key : ∀ (k : Nat) (b : va_W), bs'[k]? = some b → ∃ i, is[k]? = some i ∧ bs[i]? = some b := by
    intro k b hk
    have h1 : (is.map (fun i => bs[i]?))[k]? = some (some b) := by rw [hs, List.getElem?_map, hk]; rfl
    rw [List.getElem?_map] at h1
    cases hi : is[k]? with
    | none => rw [hi] at h1; cases h1
    | some i => rw [hi] at h1; exact ⟨i, rfl, Option.some.inj h1⟩
  rw [cat_flat] at hP hD ⊢
  rw [P_mem] at hP ⊢
  rw [D_mem] at hD ⊢
  have hm : ∀ q, q ∈ bs'.flatten → q ∈ bs.flatten := by
    intro q hq
    obtain ⟨b, hb, hqb⟩ := List.mem_flatten.mp hq
    obtain ⟨k, hk⟩ := List.mem_iff_getElem?.mp hb
    obtain ⟨i, -, h2⟩ := key k b hk
    exact List.mem_flatten.mpr ⟨b, List.mem_of_getElem? h2, hqb⟩
  refine ⟨fun q hq => hP q (hm q hq), ?_, fun q hq => hD.2 q (hm q hq)⟩
  have h1 := hD.1
  rw [List.pairwise_flatten] at h1 ⊢
  refine ⟨fun b hb => ?_, ?_⟩
  · obtain ⟨k, hk⟩ := List.mem_iff_getElem?.mp hb
    obtain ⟨i, -, h2⟩ := key k b hk
    exact h1.1 b (List.mem_of_getElem? h2)
  · have h2 := h1.2
    rw [List.pairwise_iff_getElem] at h2 ⊢
    intro i j hi hj hij x hx y hy
    obtain ⟨a, a1, a2⟩ := key i _ (List.getElem?_eq_getElem hi)
    obtain ⟨b, b1, b2⟩ := key j _ (List.getElem?_eq_getElem hj)
    obtain ⟨la, ea⟩ := List.getElem?_eq_some_iff.mp a2
    obtain ⟨lb, eb⟩ := List.getElem?_eq_some_iff.mp b2
    rcases Nat.lt_trichotomy a b with h | h | h
    · exact h2 a b la lb h x (by rw [ea]; exact hx) y (by rw [eb]; exact hy)
    · subst h
      exact absurd (va_nd_inj is hn i j a a1 b1) (by omega)
    · exact fun e => h2 b a lb la h y (by rw [eb]; exact hy) x (by rw [ea]; exact hx) e.symm
theorem cat_app {b : va_W} {bs cs : List va_W} : cat (b :: bs) ++ cat cs = cat ((b :: bs) ++ cs) := by
  rw [cat_flat, cat_flat, cat_flat, List.flatten_append]
def ixC (wc : va_W) : List Nat := List.range wc.length
def ixR (wc wr : va_W) : List Nat := (List.range wr.length).map (fun i => i + wc.length)
theorem ixC_ok {wc wr : va_W} : (ixC wc).map (fun i => (wc ++ wr)[i]?) = wc.map some := by
  apply List.ext_getElem?
  intro i
  unfold ixC
  rw [List.getElem?_map, List.getElem?_map]
  by_cases h : i < wc.length
  · rw [List.getElem?_range h]; simp [List.getElem?_append_left h, h]
  · rw [List.getElem?_eq_none (by simp; omega), List.getElem?_eq_none (by omega)]; rfl
theorem ixR_ok {wc wr : va_W} : (ixR wc wr).map (fun i => (wc ++ wr)[i]?) = wr.map some := by
  apply List.ext_getElem?
  intro i
  unfold ixR
  rw [List.map_map, List.getElem?_map, List.getElem?_map]
  by_cases h : i < wr.length
  · rw [List.getElem?_range h]
    simp only [Option.map_some, Function.comp]
    rw [List.getElem?_append_right (by omega), show i + wc.length - wc.length = i by omega, List.getElem?_eq_getElem h]; rfl
  · rw [List.getElem?_eq_none (by simp; omega), List.getElem?_eq_none (by omega)]; rfl
theorem nd_of {l : List Nat} (h : l.Nodup) : va_nd l = true := by
  induction l with
  | nil => rfl
  | cons a l ih =>
    rw [List.nodup_cons] at h
    simp only [va_nd, Bool.and_eq_true, decide_eq_true_eq]
    exact ⟨h.1, ih h.2⟩
theorem ixC_nd {wc : va_W} : va_nd (ixC wc) = true := nd_of List.nodup_range
theorem ixR_nd {wc wr : va_W} : va_nd (ixR wc wr) = true := by
  apply nd_of
  unfold ixR
  exact List.Pairwise.map _ (fun a b h e => h (by omega)) List.nodup_range
theorem ix_dis {wc wr : va_W} : ∀ i ∈ ixR wc wr, i ∉ ixC wc := by
  intro i hi hc
  unfold ixR at hi; unfold ixC at hc
  obtain ⟨j, -, e⟩ := List.mem_map.mp hi
  have := List.mem_range.mp hc
  omega
/-! words out of the start -/
theorem KS.up {G : GG} {A : Nat → Prop} {U : State} {H : Heap} (h : KS G A U H) : ∀ q, A q → G.2.2.1.heap.size ≤ q := fun q hq => Nat.le_of_not_lt (fun z => (h.2.2.2 q z).1 hq)
theorem KS.zq {G : GG} {A : Nat → Prop} {U : State} {H : Heap} (h : KS G A U H) {C n d : String} (hl : Cond.laysStatic C n d ∈ lw_tbl) (hi : Cond.initialized C ∈ lw_tbl) (hr : (Cond.isRef (.static C n d)).before #[Value.ref G.2.2.2] G.2.2.1 = true) : vx_Zq C n d A U H := by
  have h0 : vx_Zq C n d (fun q => G.2.2.1.heap.size ≤ q) G.2.2.1 G.2.2.1.heap := vx_Zqof (h.1 _ hl) (h.1 _ hi) hr (fun a ha => Nat.not_le.mpr ha)
  exact (vx_Zq.moved h.2.2.1.alike (h0.kept (fun a ha _ => (h.2.2.2 a ha).2))).narrow h.up
theorem KS.nar {G : GG} {A : Nat → Prop} {U : State} {H : Heap} (h : KS G A U H) {w : Cond} (hw : w ∈ flatC (Jvm.Cond.and given_1 narrow_1)) : w.before #[Value.ref G.2.2.2] G.2.2.1 = true := flat_of_before _ h.2.1 _ hw
theorem KS.zU {G : GG} {A : Nat → Prop} {U : State} {H : Heap} (h : KS G A U H) : vx_Zq Bundle.tN "UNASSIGNED_STACK" Bundle.steD A U H := h.zq q340 (lw_all_tbl q98) (h.nar (by decide +kernel))
theorem KS.zN {G : GG} {A : Nat → Prop} {U : State} {H : Heap} (h : KS G A U H) : vx_Zq Bundle.tN "SUPPRESSED_SENTINEL" Bundle.listD A U H := h.zq q342 (lw_all_tbl q98) (h.nar (by decide +kernel))
/-- a list's words: good ones, and such as the tables alone decide -/
theorem KS.all {G : GG} {A : Nat → Prop} {U : State} {H : Heap} (h : KS G A U H) {args : Array Value} (hts : ∀ w ∈ lw_all, w.before args U = true) {L : List Cond} (ps : List Nat) (hp : L = ps.filterMap (fun i => lw_tbl[i]?)) (hg : L.all (fun w => goodWord w || nwOk w) = true) : ∀ w ∈ L, w.before args U = true := by
  intro w hw
  have h1 := List.all_eq_true.mp hg w hw
  have hm : w ∈ lw_tbl := by
    rw [hp] at hw
    obtain ⟨i, -, hi⟩ := List.mem_filterMap.mp hw
    exact List.mem_of_getElem? hi
  rw [Bool.or_eq_true] at h1
  rcases h1 with h1 | h1
  · exact hts w (lw_g hm h1)
  · have h2 := h.nw hm h1
    cases w <;> first | (exact absurd (show false = true from h1) (by decide)) | exact va_Nw.use rfl h2
theorem KS.nc {G : GG} {A : Nat → Prop} {U : State} {H : Heap} (h : KS G A U H) {C T : String} (hw : Cond.not (.castable C T) ∈ flatC (Jvm.Cond.and given_1 narrow_1)) : va_Nc C T U := (va_Nc.of (h.nar hw)).moved h.2.2.1.alike
theorem cell_of {s : State} {H : Heap} {D : va_G} {a q0 ci : Nat} {q : vw_C} {fs : List Value} {ws : va_W} {tys : List (ClassId × FieldType)} (hK : va_K D CL tys s) (hP : va_P D CL ws H) (hc : CL[ci]? = some q) (he : ws[q0]? = some (a, .inr (ci, fs))) : ∃ cell : Cell, H[a]? = some cell ∧ cell.vm = .none ∧ s.vm.findClass q.1 = some cell.cls := by
  obtain ⟨q', h1, cell, g1, g2, g3, -⟩ := hP q0 _ he
  exact ⟨cell, g1, g3, by rw [g2]; exact (hK.1 ci q hc).2.1⟩
/-! contracts that return or throw -/
/-- what is thrown: the class, the world behind it (its object at q) -/
abbrev XQ (G : GG) {S : Type} (E : S → String) (px : S → Prop) (ws1 : Nat → S → va_W) (A : Nat → Prop) : Addr → String → State → State → Prop := vx_X px (fun q E' u t => E' = E u ∧ Bw G A (ws1 q u) t) A
def MX (l : Launch) (G : GG) (y : MethodName) (cc : ByteArray) (nL : Nat) (ret : Option FieldType) (rm : Room) (av : List Value) (ws : va_W) (Qf : (Nat → Prop) → Array Value → State → Outcome → State → Prop) (Xf : (Nat → Prop) → Addr → String → State → State → Prop) : Prop :=
  ∀ sz : Nat, vx_Met l y (ws_ y cc nL ret) rm (Pre G av ws sz) (Qf (va_A ws sz)) (Xf (va_A ws sz)) rm.cells rm.slots (va_A ws sz)
def MH (l : Launch) (G : GG) (y : MethodName) (cc : ByteArray) (nL : Nat) (ret : Option FieldType) (hh : List (Nat × Nat × Nat × Nat)) (rm : Room) (av : List Value) (ws : va_W) (Qf : (Nat → Prop) → Array Value → State → Outcome → State → Prop) (Xf : (Nat → Prop) → Addr → String → State → State → Prop) : Prop :=
  ∀ sz : Nat, vx_Met l y (wsW_ y cc nL ret hh) rm (Pre G av ws sz) (Qf (va_A ws sz)) (Xf (va_A ws sz)) rm.cells rm.slots (va_A ws sz)
theorem MX.of {l : Launch} {G : GG} {y : MethodName} {cc : ByteArray} {nL : Nat} {ret : Option FieldType} {rm : Room} {av : List Value} {ws : va_W} {Qf : (Nat → Prop) → Array Value → State → Outcome → State → Prop} {Xf : (Nat → Prop) → Addr → String → State → State → Prop} (hy : plainName y.cls = true) (hn : (lg_sl av).length ≤ nL)
    (body : ∀ (p : Program) (e : Env) (s : State) (m : MethodId) (args : Array Value) (below : List Frame) (meth : Method) (c : Code) (A : Nat → Prop), Cx p s m args meth c y.cls cc nL ret → (y.name = "<init>" → meth.name = "<init>") → (∀ q : Nat, s.heap.size ≤ q → A q) → va_K G.1 CL (TYS G) s → KS G A s s.heap → va_P G.1 CL ws s.heap → va_D A ws → c.exceptionTable.toList = [] → ∀ ls : Array Slot, lv_has ls nL (lv_args 0 av) →
      W p l e rm s m args below meth c s.heap [] 0 0 (vx_MQ below (Qf A) (Xf A) args s rm.cells rm.slots A) (F0 m 0 ls [])) : MX l G y cc nL ret rm av ws Qf Xf := by
  intro sz
  refine vx_ofW (cc := cc) (maxL := nL) (ret := ret) hy rfl ?_
  intro p e s m args below meth c s₁ B hml ht hv
  obtain ⟨rfl, hsz, hP, hK, hZ, hD0⟩ := hv
  subst hsz
  have hts := atoms_spec (ws := ws_ y cc nL ret) B.pre
  have hl := lv_entry av (n := nL) hn
  rw [lg_entry_eq]
  exact body p e s m av.toArray below meth c (va_A ws s.heap.size) ⟨B.exec, B.bytes, B.returns, fun w h => hts w (List.mem_cons_of_mem _ h), findClass_of_methodNamed B.named, B.notSynchronized, hml⟩ (fun h => (name_of_methodNamed B.named B.method).1.trans h) (fun q h => Or.inr h) hK hZ hP (hD0.self) (List.eq_nil_iff_forall_not_mem.mpr (fun x hx => ht x hx)) _ hl
theorem MH.of {l : Launch} {G : GG} {y : MethodName} {cc : ByteArray} {nL : Nat} {ret : Option FieldType} {hh : List (Nat × Nat × Nat × Nat)} {rm : Room} {av : List Value} {ws : va_W} {Qf : (Nat → Prop) → Array Value → State → Outcome → State → Prop} {Xf : (Nat → Prop) → Addr → String → State → State → Prop} (hy : plainName y.cls = true) (hn : (lg_sl av).length ≤ nL)
    (body : ∀ (p : Program) (e : Env) (s : State) (m : MethodId) (args : Array Value) (below : List Frame) (meth : Method) (c : Code) (A : Nat → Prop), Cx p s m args meth c y.cls cc nL ret → (y.name = "<init>" → meth.name = "<init>") → (∀ q : Nat, s.heap.size ≤ q → A q) → va_K G.1 CL (TYS G) s → KS G A s s.heap → va_P G.1 CL ws s.heap → va_D A ws → c.exceptionTable.toList = tableOf hh → ∀ ls : Array Slot, lv_has ls nL (lv_args 0 av) →
      W p l e rm s m args below meth c s.heap [] 0 0 (vx_MQ below (Qf A) (Xf A) args s rm.cells rm.slots A) (F0 m 0 ls [])) : MH l G y cc nL ret hh rm av ws Qf Xf := by
  intro sz
  refine vx_ofWH (cc := cc) (maxL := nL) (ret := ret) (hh := hh) hy rfl ?_
  intro p e s m args below meth c s₁ B hml hv
  obtain ⟨rfl, hsz, hP, hK, hZ, hD0⟩ := hv
  subst hsz
  have hts := atoms_spec (ws := wsW_ y cc nL ret hh) B.pre
  have ht : c.exceptionTable.toList = tableOf hh := vx_table (x := y) B (hts _ List.mem_cons_self)
  have hl := lv_entry av (n := nL) hn
  rw [lg_entry_eq]
  exact body p e s m av.toArray below meth c (va_A ws s.heap.size) ⟨B.exec, B.bytes, B.returns, fun w h => hts w (List.mem_cons_of_mem _ h), findClass_of_methodNamed B.named, B.notSynchronized, hml⟩ (fun h => (name_of_methodNamed B.named B.method).1.trans h) (fun q h => Or.inr h) hK hZ hP (hD0.self) ht _ hl
section CALLX
variable {p : Program} {l : Launch} {e : Env} {R : Room} {s : State} {m : MethodId} {args : Array Value} {below : List Frame} {meth : Method} {c : Code} {H : Heap} {locs : List Loc} {cells slots : Nat} {Q : State → Prop} {G : GG} {A : Nat → Prop} {cc bytes : ByteArray} {pc : Nat} {ls : Array Slot} {own : String} {index nL maxL n : Nat} {y : MethodName} {ret : Option FieldType} {hh : List (Nat × Nat × Nat × Nat)} {rm : Room} {As rest st0 : List Value} {b : Nat} {ws wc wr : va_W}
theorem callXVi {q : vw_C} {S : Type} {post : Int32 → S → Prop} {ws1 : S → va_W} {SX : Type} {E : SX → String} {px : SX → Prop} {wx : Nat → SX → va_W} (C9 : CallFix p m c cc nL s args lw_all own) (hM : MX l G y bytes maxL ret rm (.ref b :: As) wc (Qi_ G post ws1) (XQ G E px wx)) (cw : CallW R s args own q.1 index y bytes maxL ret (ws_ y bytes maxL ret) rm rm.cells rm.slots n) (hK : va_K G.1 CL (TYS G) s) (hZ : KS G A s s.heap) (hA : ∀ q : Nat, s.heap.size ≤ q → A q) (hP : va_P G.1 CL ws H) (hD : va_D A ws) (hS : va_S A s.heap H locs) (isC isR : List Nat) (hC : isC.map (fun i => ws[i]?) = wc.map some) (hR : isR.map (fun i => ws[i]?) = wr.map some) (hnc : va_nd isC = true) (hnr : va_nd isR = true) (hdis : ∀ i ∈ isR, i ∉ isC) (q0 ci : Nat) {fs : List Value} (hc : CL[ci]? = some q) (he : wc[q0]? = some (b, .inr (ci, fs))) (hn : As.length = n) (hsz : ls.size = nL) (hrest : (rest.map fun v => v.category).sum ≤ 8) (hf : cells + rm.cells ≤ R.cells ∧ slots + rm.slots ≤ R.slots) (hst : st0 = As.reverse ++ .ref b :: rest) (hd : decode cc pc = .ok (.invokevirtual index, 3))
    (kx : ∀ (ce : Cell) (q9 : Nat) (u : SX) (H1 : Heap) (locs1 : List Loc), px u → va_P G.1 CL (wr ++ wx q9 u) H1 → va_D A (wr ++ wx q9 u) → va_S A s.heap H1 locs1 → H1[q9]? = some ce → ce.vm = .none → s.vm.findClass (E u) = some ce.cls → vx_W p l e R s m args below meth c H1 locs1 (cells + rm.cells) (slots + rm.slots) Q (F0 m pc ls rest) q9)
    (kk : ∀ (r : Int32) (u : S) (H1 : Heap) (locs1 : List Loc), post r u → va_P G.1 CL (wr ++ ws1 u) H1 → va_D A (wr ++ ws1 u) → va_S A s.heap H1 locs1 → W p l e R s m args below meth c H1 locs1 (cells + rm.cells) (slots + rm.slots) Q (F0 m (pc + 3) ls (.int r :: rest))) : W p l e R s m args below meth c H locs cells slots Q (F0 m pc ls st0) := by
  have hF := free_of hA hD hS isC hC
  have hPc := cut_P hP isC hC
  have hDc := hD.sub isC hnc hC
  refine vx_calli (vx_runV (rest := rest) C9 (hM H.size) cw (pre_V hK hZ hS hPc hDc hF hc he) rfl hn hsz hst (lv_room hrest) hd hf) hS (fun q _ h => hF q h) hF (fun q _ h => hF q h) (fun E9 ce q9 u t H1 locs1 ht hvm hw hB hz1 hk1 hS1 hce hcv hcl => ?_) (fun r u t H1 locs1 ht hvm hw hB hz1 hk1 hS1 => ?_)
  · obtain ⟨rfl, hP1, hD1⟩ := hB
    rw [ht] at hP1
    obtain ⟨hP2, hD2⟩ := va_join (wr := wr) hP hD isC isR hC hR hnr hdis hk1 hF hP1 hD1
    exact kx ce q9 u H1 locs1 hw hP2 hD2 hS1 hce hcv hcl
  · obtain ⟨hP1, hD1⟩ := hB
    rw [ht] at hP1
    obtain ⟨hP2, hD2⟩ := va_join (wr := wr) hP hD isC isR hC hR hnr hdis hk1 hF hP1 hD1
    exact kk r u H1 locs1 hw hP2 hD2 hS1
theorem callXVv {q : vw_C} {S : Type} {post : S → Prop} {ws1 : S → va_W} {SX : Type} {E : SX → String} {px : SX → Prop} {wx : Nat → SX → va_W} (C9 : CallFix p m c cc nL s args lw_all own) (hM : MX l G y bytes maxL ret rm (.ref b :: As) wc (Qv_ G post ws1) (XQ G E px wx)) (cw : CallW R s args own q.1 index y bytes maxL ret (ws_ y bytes maxL ret) rm rm.cells rm.slots n) (hK : va_K G.1 CL (TYS G) s) (hZ : KS G A s s.heap) (hA : ∀ q : Nat, s.heap.size ≤ q → A q) (hP : va_P G.1 CL ws H) (hD : va_D A ws) (hS : va_S A s.heap H locs) (isC isR : List Nat) (hC : isC.map (fun i => ws[i]?) = wc.map some) (hR : isR.map (fun i => ws[i]?) = wr.map some) (hnc : va_nd isC = true) (hnr : va_nd isR = true) (hdis : ∀ i ∈ isR, i ∉ isC) (q0 ci : Nat) {fs : List Value} (hc : CL[ci]? = some q) (he : wc[q0]? = some (b, .inr (ci, fs))) (hn : As.length = n) (hsz : ls.size = nL) (hrest : (rest.map fun v => v.category).sum ≤ 8) (hf : cells + rm.cells ≤ R.cells ∧ slots + rm.slots ≤ R.slots) (hst : st0 = As.reverse ++ .ref b :: rest) (hd : decode cc pc = .ok (.invokevirtual index, 3))
    (kx : ∀ (ce : Cell) (q9 : Nat) (u : SX) (H1 : Heap) (locs1 : List Loc), px u → va_P G.1 CL (wr ++ wx q9 u) H1 → va_D A (wr ++ wx q9 u) → va_S A s.heap H1 locs1 → H1[q9]? = some ce → ce.vm = .none → s.vm.findClass (E u) = some ce.cls → vx_W p l e R s m args below meth c H1 locs1 (cells + rm.cells) (slots + rm.slots) Q (F0 m pc ls rest) q9)
    (kk : ∀ (u : S) (H1 : Heap) (locs1 : List Loc), post u → va_P G.1 CL (wr ++ ws1 u) H1 → va_D A (wr ++ ws1 u) → va_S A s.heap H1 locs1 → W p l e R s m args below meth c H1 locs1 (cells + rm.cells) (slots + rm.slots) Q (F0 m (pc + 3) ls rest)) : W p l e R s m args below meth c H locs cells slots Q (F0 m pc ls st0) := by
  have hF := free_of hA hD hS isC hC
  have hPc := cut_P hP isC hC
  have hDc := hD.sub isC hnc hC
  refine vx_callv (vx_runV (rest := rest) C9 (hM H.size) cw (pre_V hK hZ hS hPc hDc hF hc he) rfl hn hsz hst (lv_room hrest) hd hf) hS (fun q _ h => hF q h) hF (fun q _ h => hF q h) (fun E9 ce q9 u t H1 locs1 ht hvm hw hB hz1 hk1 hS1 hce hcv hcl => ?_) (fun u t H1 locs1 ht hvm hw hB hz1 hk1 hS1 => ?_)
  · obtain ⟨rfl, hP1, hD1⟩ := hB
    rw [ht] at hP1
    obtain ⟨hP2, hD2⟩ := va_join (wr := wr) hP hD isC isR hC hR hnr hdis hk1 hF hP1 hD1
    exact kx ce q9 u H1 locs1 hw hP2 hD2 hS1 hce hcv hcl
  · obtain ⟨hP1, hD1⟩ := hB
    rw [ht] at hP1
    obtain ⟨hP2, hD2⟩ := va_join (wr := wr) hP hD isC isR hC hR hnr hdis hk1 hF hP1 hD1
    exact kk u H1 locs1 hw hP2 hD2 hS1
theorem callXVd {q : vw_C} {S : Type} {post : UInt64 → S → Prop} {ws1 : S → va_W} {SX : Type} {E : SX → String} {px : SX → Prop} {wx : Nat → SX → va_W} (C9 : CallFix p m c cc nL s args lw_all own) (hM : MX l G y bytes maxL ret rm (.ref b :: As) wc (Qd_ G post ws1) (XQ G E px wx)) (cw : CallW R s args own q.1 index y bytes maxL ret (ws_ y bytes maxL ret) rm rm.cells rm.slots n) (hK : va_K G.1 CL (TYS G) s) (hZ : KS G A s s.heap) (hA : ∀ q : Nat, s.heap.size ≤ q → A q) (hP : va_P G.1 CL ws H) (hD : va_D A ws) (hS : va_S A s.heap H locs) (isC isR : List Nat) (hC : isC.map (fun i => ws[i]?) = wc.map some) (hR : isR.map (fun i => ws[i]?) = wr.map some) (hnc : va_nd isC = true) (hnr : va_nd isR = true) (hdis : ∀ i ∈ isR, i ∉ isC) (q0 ci : Nat) {fs : List Value} (hc : CL[ci]? = some q) (he : wc[q0]? = some (b, .inr (ci, fs))) (hn : As.length = n) (hsz : ls.size = nL) (hrest : (rest.map fun v => v.category).sum ≤ 8) (hf : cells + rm.cells ≤ R.cells ∧ slots + rm.slots ≤ R.slots) (hst : st0 = As.reverse ++ .ref b :: rest) (hd : decode cc pc = .ok (.invokevirtual index, 3))
    (kx : ∀ (ce : Cell) (q9 : Nat) (u : SX) (H1 : Heap) (locs1 : List Loc), px u → va_P G.1 CL (wr ++ wx q9 u) H1 → va_D A (wr ++ wx q9 u) → va_S A s.heap H1 locs1 → H1[q9]? = some ce → ce.vm = .none → s.vm.findClass (E u) = some ce.cls → vx_W p l e R s m args below meth c H1 locs1 (cells + rm.cells) (slots + rm.slots) Q (F0 m pc ls rest) q9)
    (kk : ∀ (r : UInt64) (u : S) (H1 : Heap) (locs1 : List Loc), post r u → va_P G.1 CL (wr ++ ws1 u) H1 → va_D A (wr ++ ws1 u) → va_S A s.heap H1 locs1 → W p l e R s m args below meth c H1 locs1 (cells + rm.cells) (slots + rm.slots) Q (F0 m (pc + 3) ls (.double r :: rest))) : W p l e R s m args below meth c H locs cells slots Q (F0 m pc ls st0) := by
  have hF := free_of hA hD hS isC hC
  have hPc := cut_P hP isC hC
  have hDc := hD.sub isC hnc hC
  refine vx_calld (vx_runV (rest := rest) C9 (hM H.size) cw (pre_V hK hZ hS hPc hDc hF hc he) rfl hn hsz hst (lv_room hrest) hd hf) hS (fun q _ h => hF q h) hF (fun q _ h => hF q h) (fun E9 ce q9 u t H1 locs1 ht hvm hw hB hz1 hk1 hS1 hce hcv hcl => ?_) (fun r u t H1 locs1 ht hvm hw hB hz1 hk1 hS1 => ?_)
  · obtain ⟨rfl, hP1, hD1⟩ := hB
    rw [ht] at hP1
    obtain ⟨hP2, hD2⟩ := va_join (wr := wr) hP hD isC isR hC hR hnr hdis hk1 hF hP1 hD1
    exact kx ce q9 u H1 locs1 hw hP2 hD2 hS1 hce hcv hcl
  · obtain ⟨hP1, hD1⟩ := hB
    rw [ht] at hP1
    obtain ⟨hP2, hD2⟩ := va_join (wr := wr) hP hD isC isR hC hR hnr hdis hk1 hF hP1 hD1
    exact kk r u H1 locs1 hw hP2 hD2 hS1
theorem callXVf {q : vw_C} {S : Type} {post : UInt32 → S → Prop} {ws1 : S → va_W} {SX : Type} {E : SX → String} {px : SX → Prop} {wx : Nat → SX → va_W} (C9 : CallFix p m c cc nL s args lw_all own) (hM : MX l G y bytes maxL ret rm (.ref b :: As) wc (Qf_ G post ws1) (XQ G E px wx)) (cw : CallW R s args own q.1 index y bytes maxL ret (ws_ y bytes maxL ret) rm rm.cells rm.slots n) (hK : va_K G.1 CL (TYS G) s) (hZ : KS G A s s.heap) (hA : ∀ q : Nat, s.heap.size ≤ q → A q) (hP : va_P G.1 CL ws H) (hD : va_D A ws) (hS : va_S A s.heap H locs) (isC isR : List Nat) (hC : isC.map (fun i => ws[i]?) = wc.map some) (hR : isR.map (fun i => ws[i]?) = wr.map some) (hnc : va_nd isC = true) (hnr : va_nd isR = true) (hdis : ∀ i ∈ isR, i ∉ isC) (q0 ci : Nat) {fs : List Value} (hc : CL[ci]? = some q) (he : wc[q0]? = some (b, .inr (ci, fs))) (hn : As.length = n) (hsz : ls.size = nL) (hrest : (rest.map fun v => v.category).sum ≤ 8) (hf : cells + rm.cells ≤ R.cells ∧ slots + rm.slots ≤ R.slots) (hst : st0 = As.reverse ++ .ref b :: rest) (hd : decode cc pc = .ok (.invokevirtual index, 3))
    (kx : ∀ (ce : Cell) (q9 : Nat) (u : SX) (H1 : Heap) (locs1 : List Loc), px u → va_P G.1 CL (wr ++ wx q9 u) H1 → va_D A (wr ++ wx q9 u) → va_S A s.heap H1 locs1 → H1[q9]? = some ce → ce.vm = .none → s.vm.findClass (E u) = some ce.cls → vx_W p l e R s m args below meth c H1 locs1 (cells + rm.cells) (slots + rm.slots) Q (F0 m pc ls rest) q9)
    (kk : ∀ (r : UInt32) (u : S) (H1 : Heap) (locs1 : List Loc), post r u → va_P G.1 CL (wr ++ ws1 u) H1 → va_D A (wr ++ ws1 u) → va_S A s.heap H1 locs1 → W p l e R s m args below meth c H1 locs1 (cells + rm.cells) (slots + rm.slots) Q (F0 m (pc + 3) ls (.float r :: rest))) : W p l e R s m args below meth c H locs cells slots Q (F0 m pc ls st0) := by
  have hF := free_of hA hD hS isC hC
  have hPc := cut_P hP isC hC
  have hDc := hD.sub isC hnc hC
  refine vx_callf (vx_runV (rest := rest) C9 (hM H.size) cw (pre_V hK hZ hS hPc hDc hF hc he) rfl hn hsz hst (lv_room hrest) hd hf) hS (fun q _ h => hF q h) hF (fun q _ h => hF q h) (fun E9 ce q9 u t H1 locs1 ht hvm hw hB hz1 hk1 hS1 hce hcv hcl => ?_) (fun r u t H1 locs1 ht hvm hw hB hz1 hk1 hS1 => ?_)
  · obtain ⟨rfl, hP1, hD1⟩ := hB
    rw [ht] at hP1
    obtain ⟨hP2, hD2⟩ := va_join (wr := wr) hP hD isC isR hC hR hnr hdis hk1 hF hP1 hD1
    exact kx ce q9 u H1 locs1 hw hP2 hD2 hS1 hce hcv hcl
  · obtain ⟨hP1, hD1⟩ := hB
    rw [ht] at hP1
    obtain ⟨hP2, hD2⟩ := va_join (wr := wr) hP hD isC isR hC hR hnr hdis hk1 hF hP1 hD1
    exact kk r u H1 locs1 hw hP2 hD2 hS1
theorem callXSi  {S : Type} {post : Int32 → S → Prop} {ws1 : S → va_W} {SX : Type} {E : SX → String} {px : SX → Prop} {wx : Nat → SX → va_W} (C9 : CallFix p m c cc nL s args lw_all own) (hM : MX l G y bytes maxL ret rm As wc (Qi_ G post ws1) (XQ G E px wx)) (cw : CallB R s args own index y bytes maxL ret (ws_ y bytes maxL ret) rm rm.cells rm.slots n ∧ (Cond.static y).before args s = true) (hK : va_K G.1 CL (TYS G) s) (hZ : KS G A s s.heap) (hA : ∀ q : Nat, s.heap.size ≤ q → A q) (hP : va_P G.1 CL ws H) (hD : va_D A ws) (hS : va_S A s.heap H locs) (isC isR : List Nat) (hC : isC.map (fun i => ws[i]?) = wc.map some) (hR : isR.map (fun i => ws[i]?) = wr.map some) (hnc : va_nd isC = true) (hnr : va_nd isR = true) (hdis : ∀ i ∈ isR, i ∉ isC)  (hn : As.length = n) (hsz : ls.size = nL) (hrest : (rest.map fun v => v.category).sum ≤ 8) (hf : cells + rm.cells ≤ R.cells ∧ slots + rm.slots ≤ R.slots) (hst : st0 = As.reverse ++ rest) (hd : decode cc pc = .ok (.invokestatic index, 3))
    (kx : ∀ (ce : Cell) (q9 : Nat) (u : SX) (H1 : Heap) (locs1 : List Loc), px u → va_P G.1 CL (wr ++ wx q9 u) H1 → va_D A (wr ++ wx q9 u) → va_S A s.heap H1 locs1 → H1[q9]? = some ce → ce.vm = .none → s.vm.findClass (E u) = some ce.cls → vx_W p l e R s m args below meth c H1 locs1 (cells + rm.cells) (slots + rm.slots) Q (F0 m pc ls rest) q9)
    (kk : ∀ (r : Int32) (u : S) (H1 : Heap) (locs1 : List Loc), post r u → va_P G.1 CL (wr ++ ws1 u) H1 → va_D A (wr ++ ws1 u) → va_S A s.heap H1 locs1 → W p l e R s m args below meth c H1 locs1 (cells + rm.cells) (slots + rm.slots) Q (F0 m (pc + 3) ls (.int r :: rest))) : W p l e R s m args below meth c H locs cells slots Q (F0 m pc ls st0) := by
  have hF := free_of hA hD hS isC hC
  have hPc := cut_P hP isC hC
  have hDc := hD.sub isC hnc hC
  refine vx_calli (vx_runS (rest := rest) C9 (hM H.size) cw (pre_S hK hZ hS hPc hDc hF) rfl hn hsz hst (lv_room hrest) hd hf) hS (fun q _ h => hF q h) hF (fun q _ h => hF q h) (fun E9 ce q9 u t H1 locs1 ht hvm hw hB hz1 hk1 hS1 hce hcv hcl => ?_) (fun r u t H1 locs1 ht hvm hw hB hz1 hk1 hS1 => ?_)
  · obtain ⟨rfl, hP1, hD1⟩ := hB
    rw [ht] at hP1
    obtain ⟨hP2, hD2⟩ := va_join (wr := wr) hP hD isC isR hC hR hnr hdis hk1 hF hP1 hD1
    exact kx ce q9 u H1 locs1 hw hP2 hD2 hS1 hce hcv hcl
  · obtain ⟨hP1, hD1⟩ := hB
    rw [ht] at hP1
    obtain ⟨hP2, hD2⟩ := va_join (wr := wr) hP hD isC isR hC hR hnr hdis hk1 hF hP1 hD1
    exact kk r u H1 locs1 hw hP2 hD2 hS1
theorem callXSv  {S : Type} {post : S → Prop} {ws1 : S → va_W} {SX : Type} {E : SX → String} {px : SX → Prop} {wx : Nat → SX → va_W} (C9 : CallFix p m c cc nL s args lw_all own) (hM : MX l G y bytes maxL ret rm As wc (Qv_ G post ws1) (XQ G E px wx)) (cw : CallB R s args own index y bytes maxL ret (ws_ y bytes maxL ret) rm rm.cells rm.slots n ∧ (Cond.static y).before args s = true) (hK : va_K G.1 CL (TYS G) s) (hZ : KS G A s s.heap) (hA : ∀ q : Nat, s.heap.size ≤ q → A q) (hP : va_P G.1 CL ws H) (hD : va_D A ws) (hS : va_S A s.heap H locs) (isC isR : List Nat) (hC : isC.map (fun i => ws[i]?) = wc.map some) (hR : isR.map (fun i => ws[i]?) = wr.map some) (hnc : va_nd isC = true) (hnr : va_nd isR = true) (hdis : ∀ i ∈ isR, i ∉ isC)  (hn : As.length = n) (hsz : ls.size = nL) (hrest : (rest.map fun v => v.category).sum ≤ 8) (hf : cells + rm.cells ≤ R.cells ∧ slots + rm.slots ≤ R.slots) (hst : st0 = As.reverse ++ rest) (hd : decode cc pc = .ok (.invokestatic index, 3))
    (kx : ∀ (ce : Cell) (q9 : Nat) (u : SX) (H1 : Heap) (locs1 : List Loc), px u → va_P G.1 CL (wr ++ wx q9 u) H1 → va_D A (wr ++ wx q9 u) → va_S A s.heap H1 locs1 → H1[q9]? = some ce → ce.vm = .none → s.vm.findClass (E u) = some ce.cls → vx_W p l e R s m args below meth c H1 locs1 (cells + rm.cells) (slots + rm.slots) Q (F0 m pc ls rest) q9)
    (kk : ∀ (u : S) (H1 : Heap) (locs1 : List Loc), post u → va_P G.1 CL (wr ++ ws1 u) H1 → va_D A (wr ++ ws1 u) → va_S A s.heap H1 locs1 → W p l e R s m args below meth c H1 locs1 (cells + rm.cells) (slots + rm.slots) Q (F0 m (pc + 3) ls rest)) : W p l e R s m args below meth c H locs cells slots Q (F0 m pc ls st0) := by
  have hF := free_of hA hD hS isC hC
  have hPc := cut_P hP isC hC
  have hDc := hD.sub isC hnc hC
  refine vx_callv (vx_runS (rest := rest) C9 (hM H.size) cw (pre_S hK hZ hS hPc hDc hF) rfl hn hsz hst (lv_room hrest) hd hf) hS (fun q _ h => hF q h) hF (fun q _ h => hF q h) (fun E9 ce q9 u t H1 locs1 ht hvm hw hB hz1 hk1 hS1 hce hcv hcl => ?_) (fun u t H1 locs1 ht hvm hw hB hz1 hk1 hS1 => ?_)
  · obtain ⟨rfl, hP1, hD1⟩ := hB
    rw [ht] at hP1
    obtain ⟨hP2, hD2⟩ := va_join (wr := wr) hP hD isC isR hC hR hnr hdis hk1 hF hP1 hD1
    exact kx ce q9 u H1 locs1 hw hP2 hD2 hS1 hce hcv hcl
  · obtain ⟨hP1, hD1⟩ := hB
    rw [ht] at hP1
    obtain ⟨hP2, hD2⟩ := va_join (wr := wr) hP hD isC isR hC hR hnr hdis hk1 hF hP1 hD1
    exact kk u H1 locs1 hw hP2 hD2 hS1
theorem callXVNi {q : vw_C} {host : String} {S : Type} {post : Int32 → S → Prop} {ws1 : S → va_W} {SX : Type} {E : SX → String} {px : SX → Prop} {wx : Nat → SX → va_W} (C9 : CallFix p m c cc nL s args lw_all own) (hM : MX l G y bytes maxL ret rm (.ref b :: As) wc (Qi_ G post ws1) (XQ G E px wx)) (cw : va_CN R s args own index y host bytes maxL ret (ws_ y bytes maxL ret) rm rm.cells rm.slots n) (hin : (Cond.instanceMethod y).before args s = true) (hse : (Cond.selects q.1 y y).before args s = true) (hK : va_K G.1 CL (TYS G) s) (hZ : KS G A s s.heap) (hA : ∀ q : Nat, s.heap.size ≤ q → A q) (hP : va_P G.1 CL ws H) (hD : va_D A ws) (hS : va_S A s.heap H locs) (isC isR : List Nat) (hC : isC.map (fun i => ws[i]?) = wc.map some) (hR : isR.map (fun i => ws[i]?) = wr.map some) (hnc : va_nd isC = true) (hnr : va_nd isR = true) (hdis : ∀ i ∈ isR, i ∉ isC) (q0 ci : Nat) {fs : List Value} (hc : CL[ci]? = some q) (he : wc[q0]? = some (b, .inr (ci, fs))) (hn : As.length = n) (hsz : ls.size = nL) (hrest : (rest.map fun v => v.category).sum ≤ 8) (hf : cells + rm.cells ≤ R.cells ∧ slots + rm.slots ≤ R.slots) (hst : st0 = As.reverse ++ .ref b :: rest) (hd : decode cc pc = .ok (.invokevirtual index, 3))
    (kx : ∀ (ce : Cell) (q9 : Nat) (u : SX) (H1 : Heap) (locs1 : List Loc), px u → va_P G.1 CL (wr ++ wx q9 u) H1 → va_D A (wr ++ wx q9 u) → va_S A s.heap H1 locs1 → H1[q9]? = some ce → ce.vm = .none → s.vm.findClass (E u) = some ce.cls → vx_W p l e R s m args below meth c H1 locs1 (cells + rm.cells) (slots + rm.slots) Q (F0 m pc ls rest) q9)
    (kk : ∀ (r : Int32) (u : S) (H1 : Heap) (locs1 : List Loc), post r u → va_P G.1 CL (wr ++ ws1 u) H1 → va_D A (wr ++ ws1 u) → va_S A s.heap H1 locs1 → W p l e R s m args below meth c H1 locs1 (cells + rm.cells) (slots + rm.slots) Q (F0 m (pc + 3) ls (.int r :: rest))) : W p l e R s m args below meth c H locs cells slots Q (F0 m pc ls st0) := by
  have hF := free_of hA hD hS isC hC
  have hPc := cut_P hP isC hC
  have hDc := hD.sub isC hnc hC
  refine vx_calli (vx_runVN (rest := rest) C9 (hM H.size) ⟨cw, hin, hse⟩ (pre_V hK hZ hS hPc hDc hF hc he) rfl hn hsz hst (lv_room hrest) hd hf) hS (fun q _ h => hF q h) hF (fun q _ h => hF q h) (fun E9 ce q9 u t H1 locs1 ht hvm hw hB hz1 hk1 hS1 hce hcv hcl => ?_) (fun r u t H1 locs1 ht hvm hw hB hz1 hk1 hS1 => ?_)
  · obtain ⟨rfl, hP1, hD1⟩ := hB
    rw [ht] at hP1
    obtain ⟨hP2, hD2⟩ := va_join (wr := wr) hP hD isC isR hC hR hnr hdis hk1 hF hP1 hD1
    exact kx ce q9 u H1 locs1 hw hP2 hD2 hS1 hce hcv hcl
  · obtain ⟨hP1, hD1⟩ := hB
    rw [ht] at hP1
    obtain ⟨hP2, hD2⟩ := va_join (wr := wr) hP hD isC isR hC hR hnr hdis hk1 hF hP1 hD1
    exact kk r u H1 locs1 hw hP2 hD2 hS1
theorem callXVNv {q : vw_C} {host : String} {S : Type} {post : S → Prop} {ws1 : S → va_W} {SX : Type} {E : SX → String} {px : SX → Prop} {wx : Nat → SX → va_W} (C9 : CallFix p m c cc nL s args lw_all own) (hM : MX l G y bytes maxL ret rm (.ref b :: As) wc (Qv_ G post ws1) (XQ G E px wx)) (cw : va_CN R s args own index y host bytes maxL ret (ws_ y bytes maxL ret) rm rm.cells rm.slots n) (hin : (Cond.instanceMethod y).before args s = true) (hse : (Cond.selects q.1 y y).before args s = true) (hK : va_K G.1 CL (TYS G) s) (hZ : KS G A s s.heap) (hA : ∀ q : Nat, s.heap.size ≤ q → A q) (hP : va_P G.1 CL ws H) (hD : va_D A ws) (hS : va_S A s.heap H locs) (isC isR : List Nat) (hC : isC.map (fun i => ws[i]?) = wc.map some) (hR : isR.map (fun i => ws[i]?) = wr.map some) (hnc : va_nd isC = true) (hnr : va_nd isR = true) (hdis : ∀ i ∈ isR, i ∉ isC) (q0 ci : Nat) {fs : List Value} (hc : CL[ci]? = some q) (he : wc[q0]? = some (b, .inr (ci, fs))) (hn : As.length = n) (hsz : ls.size = nL) (hrest : (rest.map fun v => v.category).sum ≤ 8) (hf : cells + rm.cells ≤ R.cells ∧ slots + rm.slots ≤ R.slots) (hst : st0 = As.reverse ++ .ref b :: rest) (hd : decode cc pc = .ok (.invokevirtual index, 3))
    (kx : ∀ (ce : Cell) (q9 : Nat) (u : SX) (H1 : Heap) (locs1 : List Loc), px u → va_P G.1 CL (wr ++ wx q9 u) H1 → va_D A (wr ++ wx q9 u) → va_S A s.heap H1 locs1 → H1[q9]? = some ce → ce.vm = .none → s.vm.findClass (E u) = some ce.cls → vx_W p l e R s m args below meth c H1 locs1 (cells + rm.cells) (slots + rm.slots) Q (F0 m pc ls rest) q9)
    (kk : ∀ (u : S) (H1 : Heap) (locs1 : List Loc), post u → va_P G.1 CL (wr ++ ws1 u) H1 → va_D A (wr ++ ws1 u) → va_S A s.heap H1 locs1 → W p l e R s m args below meth c H1 locs1 (cells + rm.cells) (slots + rm.slots) Q (F0 m (pc + 3) ls rest)) : W p l e R s m args below meth c H locs cells slots Q (F0 m pc ls st0) := by
  have hF := free_of hA hD hS isC hC
  have hPc := cut_P hP isC hC
  have hDc := hD.sub isC hnc hC
  refine vx_callv (vx_runVN (rest := rest) C9 (hM H.size) ⟨cw, hin, hse⟩ (pre_V hK hZ hS hPc hDc hF hc he) rfl hn hsz hst (lv_room hrest) hd hf) hS (fun q _ h => hF q h) hF (fun q _ h => hF q h) (fun E9 ce q9 u t H1 locs1 ht hvm hw hB hz1 hk1 hS1 hce hcv hcl => ?_) (fun u t H1 locs1 ht hvm hw hB hz1 hk1 hS1 => ?_)
  · obtain ⟨rfl, hP1, hD1⟩ := hB
    rw [ht] at hP1
    obtain ⟨hP2, hD2⟩ := va_join (wr := wr) hP hD isC isR hC hR hnr hdis hk1 hF hP1 hD1
    exact kx ce q9 u H1 locs1 hw hP2 hD2 hS1 hce hcv hcl
  · obtain ⟨hP1, hD1⟩ := hB
    rw [ht] at hP1
    obtain ⟨hP2, hD2⟩ := va_join (wr := wr) hP hD isC isR hC hR hnr hdis hk1 hF hP1 hD1
    exact kk u H1 locs1 hw hP2 hD2 hS1
theorem callXSNi {host : String} {S : Type} {post : Int32 → S → Prop} {ws1 : S → va_W} {SX : Type} {E : SX → String} {px : SX → Prop} {wx : Nat → SX → va_W} (C9 : CallFix p m c cc nL s args lw_all own) (hM : MX l G y bytes maxL ret rm As wc (Qi_ G post ws1) (XQ G E px wx)) (cw : va_CN R s args own index y host bytes maxL ret (ws_ y bytes maxL ret) rm rm.cells rm.slots n) (hst9 : (Cond.static y).before args s = true) (hK : va_K G.1 CL (TYS G) s) (hZ : KS G A s s.heap) (hA : ∀ q : Nat, s.heap.size ≤ q → A q) (hP : va_P G.1 CL ws H) (hD : va_D A ws) (hS : va_S A s.heap H locs) (isC isR : List Nat) (hC : isC.map (fun i => ws[i]?) = wc.map some) (hR : isR.map (fun i => ws[i]?) = wr.map some) (hnc : va_nd isC = true) (hnr : va_nd isR = true) (hdis : ∀ i ∈ isR, i ∉ isC)  (hn : As.length = n) (hsz : ls.size = nL) (hrest : (rest.map fun v => v.category).sum ≤ 8) (hf : cells + rm.cells ≤ R.cells ∧ slots + rm.slots ≤ R.slots) (hst : st0 = As.reverse ++ rest) (hd : decode cc pc = .ok (.invokestatic index, 3))
    (kx : ∀ (ce : Cell) (q9 : Nat) (u : SX) (H1 : Heap) (locs1 : List Loc), px u → va_P G.1 CL (wr ++ wx q9 u) H1 → va_D A (wr ++ wx q9 u) → va_S A s.heap H1 locs1 → H1[q9]? = some ce → ce.vm = .none → s.vm.findClass (E u) = some ce.cls → vx_W p l e R s m args below meth c H1 locs1 (cells + rm.cells) (slots + rm.slots) Q (F0 m pc ls rest) q9)
    (kk : ∀ (r : Int32) (u : S) (H1 : Heap) (locs1 : List Loc), post r u → va_P G.1 CL (wr ++ ws1 u) H1 → va_D A (wr ++ ws1 u) → va_S A s.heap H1 locs1 → W p l e R s m args below meth c H1 locs1 (cells + rm.cells) (slots + rm.slots) Q (F0 m (pc + 3) ls (.int r :: rest))) : W p l e R s m args below meth c H locs cells slots Q (F0 m pc ls st0) := by
  have hF := free_of hA hD hS isC hC
  have hPc := cut_P hP isC hC
  have hDc := hD.sub isC hnc hC
  refine vx_calli (vx_runSN (rest := rest) C9 (hM H.size) ⟨cw, hst9, trivial⟩ (pre_S hK hZ hS hPc hDc hF) rfl hn hsz hst (lv_room hrest) hd hf) hS (fun q _ h => hF q h) hF (fun q _ h => hF q h) (fun E9 ce q9 u t H1 locs1 ht hvm hw hB hz1 hk1 hS1 hce hcv hcl => ?_) (fun r u t H1 locs1 ht hvm hw hB hz1 hk1 hS1 => ?_)
  · obtain ⟨rfl, hP1, hD1⟩ := hB
    rw [ht] at hP1
    obtain ⟨hP2, hD2⟩ := va_join (wr := wr) hP hD isC isR hC hR hnr hdis hk1 hF hP1 hD1
    exact kx ce q9 u H1 locs1 hw hP2 hD2 hS1 hce hcv hcl
  · obtain ⟨hP1, hD1⟩ := hB
    rw [ht] at hP1
    obtain ⟨hP2, hD2⟩ := va_join (wr := wr) hP hD isC isR hC hR hnr hdis hk1 hF hP1 hD1
    exact kk r u H1 locs1 hw hP2 hD2 hS1
theorem callXSNv {host : String} {S : Type} {post : S → Prop} {ws1 : S → va_W} {SX : Type} {E : SX → String} {px : SX → Prop} {wx : Nat → SX → va_W} (C9 : CallFix p m c cc nL s args lw_all own) (hM : MX l G y bytes maxL ret rm As wc (Qv_ G post ws1) (XQ G E px wx)) (cw : va_CN R s args own index y host bytes maxL ret (ws_ y bytes maxL ret) rm rm.cells rm.slots n) (hst9 : (Cond.static y).before args s = true) (hK : va_K G.1 CL (TYS G) s) (hZ : KS G A s s.heap) (hA : ∀ q : Nat, s.heap.size ≤ q → A q) (hP : va_P G.1 CL ws H) (hD : va_D A ws) (hS : va_S A s.heap H locs) (isC isR : List Nat) (hC : isC.map (fun i => ws[i]?) = wc.map some) (hR : isR.map (fun i => ws[i]?) = wr.map some) (hnc : va_nd isC = true) (hnr : va_nd isR = true) (hdis : ∀ i ∈ isR, i ∉ isC)  (hn : As.length = n) (hsz : ls.size = nL) (hrest : (rest.map fun v => v.category).sum ≤ 8) (hf : cells + rm.cells ≤ R.cells ∧ slots + rm.slots ≤ R.slots) (hst : st0 = As.reverse ++ rest) (hd : decode cc pc = .ok (.invokestatic index, 3))
    (kx : ∀ (ce : Cell) (q9 : Nat) (u : SX) (H1 : Heap) (locs1 : List Loc), px u → va_P G.1 CL (wr ++ wx q9 u) H1 → va_D A (wr ++ wx q9 u) → va_S A s.heap H1 locs1 → H1[q9]? = some ce → ce.vm = .none → s.vm.findClass (E u) = some ce.cls → vx_W p l e R s m args below meth c H1 locs1 (cells + rm.cells) (slots + rm.slots) Q (F0 m pc ls rest) q9)
    (kk : ∀ (u : S) (H1 : Heap) (locs1 : List Loc), post u → va_P G.1 CL (wr ++ ws1 u) H1 → va_D A (wr ++ ws1 u) → va_S A s.heap H1 locs1 → W p l e R s m args below meth c H1 locs1 (cells + rm.cells) (slots + rm.slots) Q (F0 m (pc + 3) ls rest)) : W p l e R s m args below meth c H locs cells slots Q (F0 m pc ls st0) := by
  have hF := free_of hA hD hS isC hC
  have hPc := cut_P hP isC hC
  have hDc := hD.sub isC hnc hC
  refine vx_callv (vx_runSN (rest := rest) C9 (hM H.size) ⟨cw, hst9, trivial⟩ (pre_S hK hZ hS hPc hDc hF) rfl hn hsz hst (lv_room hrest) hd hf) hS (fun q _ h => hF q h) hF (fun q _ h => hF q h) (fun E9 ce q9 u t H1 locs1 ht hvm hw hB hz1 hk1 hS1 hce hcv hcl => ?_) (fun u t H1 locs1 ht hvm hw hB hz1 hk1 hS1 => ?_)
  · obtain ⟨rfl, hP1, hD1⟩ := hB
    rw [ht] at hP1
    obtain ⟨hP2, hD2⟩ := va_join (wr := wr) hP hD isC isR hC hR hnr hdis hk1 hF hP1 hD1
    exact kx ce q9 u H1 locs1 hw hP2 hD2 hS1 hce hcv hcl
  · obtain ⟨hP1, hD1⟩ := hB
    rw [ht] at hP1
    obtain ⟨hP2, hD2⟩ := va_join (wr := wr) hP hD isC isR hC hR hnr hdis hk1 hF hP1 hD1
    exact kk u H1 locs1 hw hP2 hD2 hS1
theorem callHVi {q : vw_C} {S : Type} {post : Int32 → S → Prop} {ws1 : S → va_W} {SX : Type} {E : SX → String} {px : SX → Prop} {wx : Nat → SX → va_W} (C9 : CallFix p m c cc nL s args lw_all own) (hM : MH l G y bytes maxL ret hh rm (.ref b :: As) wc (Qi_ G post ws1) (XQ G E px wx)) (cw : vx_CVW R s args own q.1 index y bytes maxL ret hh (wsW_ y bytes maxL ret hh) rm rm.cells rm.slots n) (hK : va_K G.1 CL (TYS G) s) (hZ : KS G A s s.heap) (hA : ∀ q : Nat, s.heap.size ≤ q → A q) (hP : va_P G.1 CL ws H) (hD : va_D A ws) (hS : va_S A s.heap H locs) (isC isR : List Nat) (hC : isC.map (fun i => ws[i]?) = wc.map some) (hR : isR.map (fun i => ws[i]?) = wr.map some) (hnc : va_nd isC = true) (hnr : va_nd isR = true) (hdis : ∀ i ∈ isR, i ∉ isC) (q0 ci : Nat) {fs : List Value} (hc : CL[ci]? = some q) (he : wc[q0]? = some (b, .inr (ci, fs))) (hn : As.length = n) (hsz : ls.size = nL) (hrest : (rest.map fun v => v.category).sum ≤ 8) (hf : cells + rm.cells ≤ R.cells ∧ slots + rm.slots ≤ R.slots) (hst : st0 = As.reverse ++ .ref b :: rest) (hd : decode cc pc = .ok (.invokevirtual index, 3))
    (kx : ∀ (ce : Cell) (q9 : Nat) (u : SX) (H1 : Heap) (locs1 : List Loc), px u → va_P G.1 CL (wr ++ wx q9 u) H1 → va_D A (wr ++ wx q9 u) → va_S A s.heap H1 locs1 → H1[q9]? = some ce → ce.vm = .none → s.vm.findClass (E u) = some ce.cls → vx_W p l e R s m args below meth c H1 locs1 (cells + rm.cells) (slots + rm.slots) Q (F0 m pc ls rest) q9)
    (kk : ∀ (r : Int32) (u : S) (H1 : Heap) (locs1 : List Loc), post r u → va_P G.1 CL (wr ++ ws1 u) H1 → va_D A (wr ++ ws1 u) → va_S A s.heap H1 locs1 → W p l e R s m args below meth c H1 locs1 (cells + rm.cells) (slots + rm.slots) Q (F0 m (pc + 3) ls (.int r :: rest))) : W p l e R s m args below meth c H locs cells slots Q (F0 m pc ls st0) := by
  have hF := free_of hA hD hS isC hC
  have hPc := cut_P hP isC hC
  have hDc := hD.sub isC hnc hC
  refine vx_calli (vx_runVX (rest := rest) C9 (hM H.size) cw (pre_V hK hZ hS hPc hDc hF hc he) rfl hn hsz hst (lv_room hrest) hd hf) hS (fun q _ h => hF q h) hF (fun q _ h => hF q h) (fun E9 ce q9 u t H1 locs1 ht hvm hw hB hz1 hk1 hS1 hce hcv hcl => ?_) (fun r u t H1 locs1 ht hvm hw hB hz1 hk1 hS1 => ?_)
  · obtain ⟨rfl, hP1, hD1⟩ := hB
    rw [ht] at hP1
    obtain ⟨hP2, hD2⟩ := va_join (wr := wr) hP hD isC isR hC hR hnr hdis hk1 hF hP1 hD1
    exact kx ce q9 u H1 locs1 hw hP2 hD2 hS1 hce hcv hcl
  · obtain ⟨hP1, hD1⟩ := hB
    rw [ht] at hP1
    obtain ⟨hP2, hD2⟩ := va_join (wr := wr) hP hD isC isR hC hR hnr hdis hk1 hF hP1 hD1
    exact kk r u H1 locs1 hw hP2 hD2 hS1
theorem callHVv {q : vw_C} {S : Type} {post : S → Prop} {ws1 : S → va_W} {SX : Type} {E : SX → String} {px : SX → Prop} {wx : Nat → SX → va_W} (C9 : CallFix p m c cc nL s args lw_all own) (hM : MH l G y bytes maxL ret hh rm (.ref b :: As) wc (Qv_ G post ws1) (XQ G E px wx)) (cw : vx_CVW R s args own q.1 index y bytes maxL ret hh (wsW_ y bytes maxL ret hh) rm rm.cells rm.slots n) (hK : va_K G.1 CL (TYS G) s) (hZ : KS G A s s.heap) (hA : ∀ q : Nat, s.heap.size ≤ q → A q) (hP : va_P G.1 CL ws H) (hD : va_D A ws) (hS : va_S A s.heap H locs) (isC isR : List Nat) (hC : isC.map (fun i => ws[i]?) = wc.map some) (hR : isR.map (fun i => ws[i]?) = wr.map some) (hnc : va_nd isC = true) (hnr : va_nd isR = true) (hdis : ∀ i ∈ isR, i ∉ isC) (q0 ci : Nat) {fs : List Value} (hc : CL[ci]? = some q) (he : wc[q0]? = some (b, .inr (ci, fs))) (hn : As.length = n) (hsz : ls.size = nL) (hrest : (rest.map fun v => v.category).sum ≤ 8) (hf : cells + rm.cells ≤ R.cells ∧ slots + rm.slots ≤ R.slots) (hst : st0 = As.reverse ++ .ref b :: rest) (hd : decode cc pc = .ok (.invokevirtual index, 3))
    (kx : ∀ (ce : Cell) (q9 : Nat) (u : SX) (H1 : Heap) (locs1 : List Loc), px u → va_P G.1 CL (wr ++ wx q9 u) H1 → va_D A (wr ++ wx q9 u) → va_S A s.heap H1 locs1 → H1[q9]? = some ce → ce.vm = .none → s.vm.findClass (E u) = some ce.cls → vx_W p l e R s m args below meth c H1 locs1 (cells + rm.cells) (slots + rm.slots) Q (F0 m pc ls rest) q9)
    (kk : ∀ (u : S) (H1 : Heap) (locs1 : List Loc), post u → va_P G.1 CL (wr ++ ws1 u) H1 → va_D A (wr ++ ws1 u) → va_S A s.heap H1 locs1 → W p l e R s m args below meth c H1 locs1 (cells + rm.cells) (slots + rm.slots) Q (F0 m (pc + 3) ls rest)) : W p l e R s m args below meth c H locs cells slots Q (F0 m pc ls st0) := by
  have hF := free_of hA hD hS isC hC
  have hPc := cut_P hP isC hC
  have hDc := hD.sub isC hnc hC
  refine vx_callv (vx_runVX (rest := rest) C9 (hM H.size) cw (pre_V hK hZ hS hPc hDc hF hc he) rfl hn hsz hst (lv_room hrest) hd hf) hS (fun q _ h => hF q h) hF (fun q _ h => hF q h) (fun E9 ce q9 u t H1 locs1 ht hvm hw hB hz1 hk1 hS1 hce hcv hcl => ?_) (fun u t H1 locs1 ht hvm hw hB hz1 hk1 hS1 => ?_)
  · obtain ⟨rfl, hP1, hD1⟩ := hB
    rw [ht] at hP1
    obtain ⟨hP2, hD2⟩ := va_join (wr := wr) hP hD isC isR hC hR hnr hdis hk1 hF hP1 hD1
    exact kx ce q9 u H1 locs1 hw hP2 hD2 hS1 hce hcv hcl
  · obtain ⟨hP1, hD1⟩ := hB
    rw [ht] at hP1
    obtain ⟨hP2, hD2⟩ := va_join (wr := wr) hP hD isC isR hC hR hnr hdis hk1 hF hP1 hD1
    exact kk u H1 locs1 hw hP2 hD2 hS1
theorem callHVd {q : vw_C} {S : Type} {post : UInt64 → S → Prop} {ws1 : S → va_W} {SX : Type} {E : SX → String} {px : SX → Prop} {wx : Nat → SX → va_W} (C9 : CallFix p m c cc nL s args lw_all own) (hM : MH l G y bytes maxL ret hh rm (.ref b :: As) wc (Qd_ G post ws1) (XQ G E px wx)) (cw : vx_CVW R s args own q.1 index y bytes maxL ret hh (wsW_ y bytes maxL ret hh) rm rm.cells rm.slots n) (hK : va_K G.1 CL (TYS G) s) (hZ : KS G A s s.heap) (hA : ∀ q : Nat, s.heap.size ≤ q → A q) (hP : va_P G.1 CL ws H) (hD : va_D A ws) (hS : va_S A s.heap H locs) (isC isR : List Nat) (hC : isC.map (fun i => ws[i]?) = wc.map some) (hR : isR.map (fun i => ws[i]?) = wr.map some) (hnc : va_nd isC = true) (hnr : va_nd isR = true) (hdis : ∀ i ∈ isR, i ∉ isC) (q0 ci : Nat) {fs : List Value} (hc : CL[ci]? = some q) (he : wc[q0]? = some (b, .inr (ci, fs))) (hn : As.length = n) (hsz : ls.size = nL) (hrest : (rest.map fun v => v.category).sum ≤ 8) (hf : cells + rm.cells ≤ R.cells ∧ slots + rm.slots ≤ R.slots) (hst : st0 = As.reverse ++ .ref b :: rest) (hd : decode cc pc = .ok (.invokevirtual index, 3))
    (kx : ∀ (ce : Cell) (q9 : Nat) (u : SX) (H1 : Heap) (locs1 : List Loc), px u → va_P G.1 CL (wr ++ wx q9 u) H1 → va_D A (wr ++ wx q9 u) → va_S A s.heap H1 locs1 → H1[q9]? = some ce → ce.vm = .none → s.vm.findClass (E u) = some ce.cls → vx_W p l e R s m args below meth c H1 locs1 (cells + rm.cells) (slots + rm.slots) Q (F0 m pc ls rest) q9)
    (kk : ∀ (r : UInt64) (u : S) (H1 : Heap) (locs1 : List Loc), post r u → va_P G.1 CL (wr ++ ws1 u) H1 → va_D A (wr ++ ws1 u) → va_S A s.heap H1 locs1 → W p l e R s m args below meth c H1 locs1 (cells + rm.cells) (slots + rm.slots) Q (F0 m (pc + 3) ls (.double r :: rest))) : W p l e R s m args below meth c H locs cells slots Q (F0 m pc ls st0) := by
  have hF := free_of hA hD hS isC hC
  have hPc := cut_P hP isC hC
  have hDc := hD.sub isC hnc hC
  refine vx_calld (vx_runVX (rest := rest) C9 (hM H.size) cw (pre_V hK hZ hS hPc hDc hF hc he) rfl hn hsz hst (lv_room hrest) hd hf) hS (fun q _ h => hF q h) hF (fun q _ h => hF q h) (fun E9 ce q9 u t H1 locs1 ht hvm hw hB hz1 hk1 hS1 hce hcv hcl => ?_) (fun r u t H1 locs1 ht hvm hw hB hz1 hk1 hS1 => ?_)
  · obtain ⟨rfl, hP1, hD1⟩ := hB
    rw [ht] at hP1
    obtain ⟨hP2, hD2⟩ := va_join (wr := wr) hP hD isC isR hC hR hnr hdis hk1 hF hP1 hD1
    exact kx ce q9 u H1 locs1 hw hP2 hD2 hS1 hce hcv hcl
  · obtain ⟨hP1, hD1⟩ := hB
    rw [ht] at hP1
    obtain ⟨hP2, hD2⟩ := va_join (wr := wr) hP hD isC isR hC hR hnr hdis hk1 hF hP1 hD1
    exact kk r u H1 locs1 hw hP2 hD2 hS1
theorem callHVf {q : vw_C} {S : Type} {post : UInt32 → S → Prop} {ws1 : S → va_W} {SX : Type} {E : SX → String} {px : SX → Prop} {wx : Nat → SX → va_W} (C9 : CallFix p m c cc nL s args lw_all own) (hM : MH l G y bytes maxL ret hh rm (.ref b :: As) wc (Qf_ G post ws1) (XQ G E px wx)) (cw : vx_CVW R s args own q.1 index y bytes maxL ret hh (wsW_ y bytes maxL ret hh) rm rm.cells rm.slots n) (hK : va_K G.1 CL (TYS G) s) (hZ : KS G A s s.heap) (hA : ∀ q : Nat, s.heap.size ≤ q → A q) (hP : va_P G.1 CL ws H) (hD : va_D A ws) (hS : va_S A s.heap H locs) (isC isR : List Nat) (hC : isC.map (fun i => ws[i]?) = wc.map some) (hR : isR.map (fun i => ws[i]?) = wr.map some) (hnc : va_nd isC = true) (hnr : va_nd isR = true) (hdis : ∀ i ∈ isR, i ∉ isC) (q0 ci : Nat) {fs : List Value} (hc : CL[ci]? = some q) (he : wc[q0]? = some (b, .inr (ci, fs))) (hn : As.length = n) (hsz : ls.size = nL) (hrest : (rest.map fun v => v.category).sum ≤ 8) (hf : cells + rm.cells ≤ R.cells ∧ slots + rm.slots ≤ R.slots) (hst : st0 = As.reverse ++ .ref b :: rest) (hd : decode cc pc = .ok (.invokevirtual index, 3))
    (kx : ∀ (ce : Cell) (q9 : Nat) (u : SX) (H1 : Heap) (locs1 : List Loc), px u → va_P G.1 CL (wr ++ wx q9 u) H1 → va_D A (wr ++ wx q9 u) → va_S A s.heap H1 locs1 → H1[q9]? = some ce → ce.vm = .none → s.vm.findClass (E u) = some ce.cls → vx_W p l e R s m args below meth c H1 locs1 (cells + rm.cells) (slots + rm.slots) Q (F0 m pc ls rest) q9)
    (kk : ∀ (r : UInt32) (u : S) (H1 : Heap) (locs1 : List Loc), post r u → va_P G.1 CL (wr ++ ws1 u) H1 → va_D A (wr ++ ws1 u) → va_S A s.heap H1 locs1 → W p l e R s m args below meth c H1 locs1 (cells + rm.cells) (slots + rm.slots) Q (F0 m (pc + 3) ls (.float r :: rest))) : W p l e R s m args below meth c H locs cells slots Q (F0 m pc ls st0) := by
  have hF := free_of hA hD hS isC hC
  have hPc := cut_P hP isC hC
  have hDc := hD.sub isC hnc hC
  refine vx_callf (vx_runVX (rest := rest) C9 (hM H.size) cw (pre_V hK hZ hS hPc hDc hF hc he) rfl hn hsz hst (lv_room hrest) hd hf) hS (fun q _ h => hF q h) hF (fun q _ h => hF q h) (fun E9 ce q9 u t H1 locs1 ht hvm hw hB hz1 hk1 hS1 hce hcv hcl => ?_) (fun r u t H1 locs1 ht hvm hw hB hz1 hk1 hS1 => ?_)
  · obtain ⟨rfl, hP1, hD1⟩ := hB
    rw [ht] at hP1
    obtain ⟨hP2, hD2⟩ := va_join (wr := wr) hP hD isC isR hC hR hnr hdis hk1 hF hP1 hD1
    exact kx ce q9 u H1 locs1 hw hP2 hD2 hS1 hce hcv hcl
  · obtain ⟨hP1, hD1⟩ := hB
    rw [ht] at hP1
    obtain ⟨hP2, hD2⟩ := va_join (wr := wr) hP hD isC isR hC hR hnr hdis hk1 hF hP1 hD1
    exact kk r u H1 locs1 hw hP2 hD2 hS1
theorem callHSi  {S : Type} {post : Int32 → S → Prop} {ws1 : S → va_W} {SX : Type} {E : SX → String} {px : SX → Prop} {wx : Nat → SX → va_W} (C9 : CallFix p m c cc nL s args lw_all own) (hM : MH l G y bytes maxL ret hh rm As wc (Qi_ G post ws1) (XQ G E px wx)) (cw : vx_CSW R s args own index y bytes maxL ret hh (wsW_ y bytes maxL ret hh) rm rm.cells rm.slots n) (hK : va_K G.1 CL (TYS G) s) (hZ : KS G A s s.heap) (hA : ∀ q : Nat, s.heap.size ≤ q → A q) (hP : va_P G.1 CL ws H) (hD : va_D A ws) (hS : va_S A s.heap H locs) (isC isR : List Nat) (hC : isC.map (fun i => ws[i]?) = wc.map some) (hR : isR.map (fun i => ws[i]?) = wr.map some) (hnc : va_nd isC = true) (hnr : va_nd isR = true) (hdis : ∀ i ∈ isR, i ∉ isC)  (hn : As.length = n) (hsz : ls.size = nL) (hrest : (rest.map fun v => v.category).sum ≤ 8) (hf : cells + rm.cells ≤ R.cells ∧ slots + rm.slots ≤ R.slots) (hst : st0 = As.reverse ++ rest) (hd : decode cc pc = .ok (.invokestatic index, 3))
    (kx : ∀ (ce : Cell) (q9 : Nat) (u : SX) (H1 : Heap) (locs1 : List Loc), px u → va_P G.1 CL (wr ++ wx q9 u) H1 → va_D A (wr ++ wx q9 u) → va_S A s.heap H1 locs1 → H1[q9]? = some ce → ce.vm = .none → s.vm.findClass (E u) = some ce.cls → vx_W p l e R s m args below meth c H1 locs1 (cells + rm.cells) (slots + rm.slots) Q (F0 m pc ls rest) q9)
    (kk : ∀ (r : Int32) (u : S) (H1 : Heap) (locs1 : List Loc), post r u → va_P G.1 CL (wr ++ ws1 u) H1 → va_D A (wr ++ ws1 u) → va_S A s.heap H1 locs1 → W p l e R s m args below meth c H1 locs1 (cells + rm.cells) (slots + rm.slots) Q (F0 m (pc + 3) ls (.int r :: rest))) : W p l e R s m args below meth c H locs cells slots Q (F0 m pc ls st0) := by
  have hF := free_of hA hD hS isC hC
  have hPc := cut_P hP isC hC
  have hDc := hD.sub isC hnc hC
  refine vx_calli (vx_runSX (rest := rest) C9 (hM H.size) cw (pre_S hK hZ hS hPc hDc hF) rfl hn hsz hst (lv_room hrest) hd hf) hS (fun q _ h => hF q h) hF (fun q _ h => hF q h) (fun E9 ce q9 u t H1 locs1 ht hvm hw hB hz1 hk1 hS1 hce hcv hcl => ?_) (fun r u t H1 locs1 ht hvm hw hB hz1 hk1 hS1 => ?_)
  · obtain ⟨rfl, hP1, hD1⟩ := hB
    rw [ht] at hP1
    obtain ⟨hP2, hD2⟩ := va_join (wr := wr) hP hD isC isR hC hR hnr hdis hk1 hF hP1 hD1
    exact kx ce q9 u H1 locs1 hw hP2 hD2 hS1 hce hcv hcl
  · obtain ⟨hP1, hD1⟩ := hB
    rw [ht] at hP1
    obtain ⟨hP2, hD2⟩ := va_join (wr := wr) hP hD isC isR hC hR hnr hdis hk1 hF hP1 hD1
    exact kk r u H1 locs1 hw hP2 hD2 hS1
theorem callHSv  {S : Type} {post : S → Prop} {ws1 : S → va_W} {SX : Type} {E : SX → String} {px : SX → Prop} {wx : Nat → SX → va_W} (C9 : CallFix p m c cc nL s args lw_all own) (hM : MH l G y bytes maxL ret hh rm As wc (Qv_ G post ws1) (XQ G E px wx)) (cw : vx_CSW R s args own index y bytes maxL ret hh (wsW_ y bytes maxL ret hh) rm rm.cells rm.slots n) (hK : va_K G.1 CL (TYS G) s) (hZ : KS G A s s.heap) (hA : ∀ q : Nat, s.heap.size ≤ q → A q) (hP : va_P G.1 CL ws H) (hD : va_D A ws) (hS : va_S A s.heap H locs) (isC isR : List Nat) (hC : isC.map (fun i => ws[i]?) = wc.map some) (hR : isR.map (fun i => ws[i]?) = wr.map some) (hnc : va_nd isC = true) (hnr : va_nd isR = true) (hdis : ∀ i ∈ isR, i ∉ isC)  (hn : As.length = n) (hsz : ls.size = nL) (hrest : (rest.map fun v => v.category).sum ≤ 8) (hf : cells + rm.cells ≤ R.cells ∧ slots + rm.slots ≤ R.slots) (hst : st0 = As.reverse ++ rest) (hd : decode cc pc = .ok (.invokestatic index, 3))
    (kx : ∀ (ce : Cell) (q9 : Nat) (u : SX) (H1 : Heap) (locs1 : List Loc), px u → va_P G.1 CL (wr ++ wx q9 u) H1 → va_D A (wr ++ wx q9 u) → va_S A s.heap H1 locs1 → H1[q9]? = some ce → ce.vm = .none → s.vm.findClass (E u) = some ce.cls → vx_W p l e R s m args below meth c H1 locs1 (cells + rm.cells) (slots + rm.slots) Q (F0 m pc ls rest) q9)
    (kk : ∀ (u : S) (H1 : Heap) (locs1 : List Loc), post u → va_P G.1 CL (wr ++ ws1 u) H1 → va_D A (wr ++ ws1 u) → va_S A s.heap H1 locs1 → W p l e R s m args below meth c H1 locs1 (cells + rm.cells) (slots + rm.slots) Q (F0 m (pc + 3) ls rest)) : W p l e R s m args below meth c H locs cells slots Q (F0 m pc ls st0) := by
  have hF := free_of hA hD hS isC hC
  have hPc := cut_P hP isC hC
  have hDc := hD.sub isC hnc hC
  refine vx_callv (vx_runSX (rest := rest) C9 (hM H.size) cw (pre_S hK hZ hS hPc hDc hF) rfl hn hsz hst (lv_room hrest) hd hf) hS (fun q _ h => hF q h) hF (fun q _ h => hF q h) (fun E9 ce q9 u t H1 locs1 ht hvm hw hB hz1 hk1 hS1 hce hcv hcl => ?_) (fun u t H1 locs1 ht hvm hw hB hz1 hk1 hS1 => ?_)
  · obtain ⟨rfl, hP1, hD1⟩ := hB
    rw [ht] at hP1
    obtain ⟨hP2, hD2⟩ := va_join (wr := wr) hP hD isC isR hC hR hnr hdis hk1 hF hP1 hD1
    exact kx ce q9 u H1 locs1 hw hP2 hD2 hS1 hce hcv hcl
  · obtain ⟨hP1, hD1⟩ := hB
    rw [ht] at hP1
    obtain ⟨hP2, hD2⟩ := va_join (wr := wr) hP hD isC isR hC hR hnr hdis hk1 hF hP1 hD1
    exact kk u H1 locs1 hw hP2 hD2 hS1
theorem callHSd  {S : Type} {post : UInt64 → S → Prop} {ws1 : S → va_W} {SX : Type} {E : SX → String} {px : SX → Prop} {wx : Nat → SX → va_W} (C9 : CallFix p m c cc nL s args lw_all own) (hM : MH l G y bytes maxL ret hh rm As wc (Qd_ G post ws1) (XQ G E px wx)) (cw : vx_CSW R s args own index y bytes maxL ret hh (wsW_ y bytes maxL ret hh) rm rm.cells rm.slots n) (hK : va_K G.1 CL (TYS G) s) (hZ : KS G A s s.heap) (hA : ∀ q : Nat, s.heap.size ≤ q → A q) (hP : va_P G.1 CL ws H) (hD : va_D A ws) (hS : va_S A s.heap H locs) (isC isR : List Nat) (hC : isC.map (fun i => ws[i]?) = wc.map some) (hR : isR.map (fun i => ws[i]?) = wr.map some) (hnc : va_nd isC = true) (hnr : va_nd isR = true) (hdis : ∀ i ∈ isR, i ∉ isC)  (hn : As.length = n) (hsz : ls.size = nL) (hrest : (rest.map fun v => v.category).sum ≤ 8) (hf : cells + rm.cells ≤ R.cells ∧ slots + rm.slots ≤ R.slots) (hst : st0 = As.reverse ++ rest) (hd : decode cc pc = .ok (.invokestatic index, 3))
    (kx : ∀ (ce : Cell) (q9 : Nat) (u : SX) (H1 : Heap) (locs1 : List Loc), px u → va_P G.1 CL (wr ++ wx q9 u) H1 → va_D A (wr ++ wx q9 u) → va_S A s.heap H1 locs1 → H1[q9]? = some ce → ce.vm = .none → s.vm.findClass (E u) = some ce.cls → vx_W p l e R s m args below meth c H1 locs1 (cells + rm.cells) (slots + rm.slots) Q (F0 m pc ls rest) q9)
    (kk : ∀ (r : UInt64) (u : S) (H1 : Heap) (locs1 : List Loc), post r u → va_P G.1 CL (wr ++ ws1 u) H1 → va_D A (wr ++ ws1 u) → va_S A s.heap H1 locs1 → W p l e R s m args below meth c H1 locs1 (cells + rm.cells) (slots + rm.slots) Q (F0 m (pc + 3) ls (.double r :: rest))) : W p l e R s m args below meth c H locs cells slots Q (F0 m pc ls st0) := by
  have hF := free_of hA hD hS isC hC
  have hPc := cut_P hP isC hC
  have hDc := hD.sub isC hnc hC
  refine vx_calld (vx_runSX (rest := rest) C9 (hM H.size) cw (pre_S hK hZ hS hPc hDc hF) rfl hn hsz hst (lv_room hrest) hd hf) hS (fun q _ h => hF q h) hF (fun q _ h => hF q h) (fun E9 ce q9 u t H1 locs1 ht hvm hw hB hz1 hk1 hS1 hce hcv hcl => ?_) (fun r u t H1 locs1 ht hvm hw hB hz1 hk1 hS1 => ?_)
  · obtain ⟨rfl, hP1, hD1⟩ := hB
    rw [ht] at hP1
    obtain ⟨hP2, hD2⟩ := va_join (wr := wr) hP hD isC isR hC hR hnr hdis hk1 hF hP1 hD1
    exact kx ce q9 u H1 locs1 hw hP2 hD2 hS1 hce hcv hcl
  · obtain ⟨hP1, hD1⟩ := hB
    rw [ht] at hP1
    obtain ⟨hP2, hD2⟩ := va_join (wr := wr) hP hD isC isR hC hR hnr hdis hk1 hF hP1 hD1
    exact kk r u H1 locs1 hw hP2 hD2 hS1
theorem callHSf  {S : Type} {post : UInt32 → S → Prop} {ws1 : S → va_W} {SX : Type} {E : SX → String} {px : SX → Prop} {wx : Nat → SX → va_W} (C9 : CallFix p m c cc nL s args lw_all own) (hM : MH l G y bytes maxL ret hh rm As wc (Qf_ G post ws1) (XQ G E px wx)) (cw : vx_CSW R s args own index y bytes maxL ret hh (wsW_ y bytes maxL ret hh) rm rm.cells rm.slots n) (hK : va_K G.1 CL (TYS G) s) (hZ : KS G A s s.heap) (hA : ∀ q : Nat, s.heap.size ≤ q → A q) (hP : va_P G.1 CL ws H) (hD : va_D A ws) (hS : va_S A s.heap H locs) (isC isR : List Nat) (hC : isC.map (fun i => ws[i]?) = wc.map some) (hR : isR.map (fun i => ws[i]?) = wr.map some) (hnc : va_nd isC = true) (hnr : va_nd isR = true) (hdis : ∀ i ∈ isR, i ∉ isC)  (hn : As.length = n) (hsz : ls.size = nL) (hrest : (rest.map fun v => v.category).sum ≤ 8) (hf : cells + rm.cells ≤ R.cells ∧ slots + rm.slots ≤ R.slots) (hst : st0 = As.reverse ++ rest) (hd : decode cc pc = .ok (.invokestatic index, 3))
    (kx : ∀ (ce : Cell) (q9 : Nat) (u : SX) (H1 : Heap) (locs1 : List Loc), px u → va_P G.1 CL (wr ++ wx q9 u) H1 → va_D A (wr ++ wx q9 u) → va_S A s.heap H1 locs1 → H1[q9]? = some ce → ce.vm = .none → s.vm.findClass (E u) = some ce.cls → vx_W p l e R s m args below meth c H1 locs1 (cells + rm.cells) (slots + rm.slots) Q (F0 m pc ls rest) q9)
    (kk : ∀ (r : UInt32) (u : S) (H1 : Heap) (locs1 : List Loc), post r u → va_P G.1 CL (wr ++ ws1 u) H1 → va_D A (wr ++ ws1 u) → va_S A s.heap H1 locs1 → W p l e R s m args below meth c H1 locs1 (cells + rm.cells) (slots + rm.slots) Q (F0 m (pc + 3) ls (.float r :: rest))) : W p l e R s m args below meth c H locs cells slots Q (F0 m pc ls st0) := by
  have hF := free_of hA hD hS isC hC
  have hPc := cut_P hP isC hC
  have hDc := hD.sub isC hnc hC
  refine vx_callf (vx_runSX (rest := rest) C9 (hM H.size) cw (pre_S hK hZ hS hPc hDc hF) rfl hn hsz hst (lv_room hrest) hd hf) hS (fun q _ h => hF q h) hF (fun q _ h => hF q h) (fun E9 ce q9 u t H1 locs1 ht hvm hw hB hz1 hk1 hS1 hce hcv hcl => ?_) (fun r u t H1 locs1 ht hvm hw hB hz1 hk1 hS1 => ?_)
  · obtain ⟨rfl, hP1, hD1⟩ := hB
    rw [ht] at hP1
    obtain ⟨hP2, hD2⟩ := va_join (wr := wr) hP hD isC isR hC hR hnr hdis hk1 hF hP1 hD1
    exact kx ce q9 u H1 locs1 hw hP2 hD2 hS1 hce hcv hcl
  · obtain ⟨hP1, hD1⟩ := hB
    rw [ht] at hP1
    obtain ⟨hP2, hD2⟩ := va_join (wr := wr) hP hD isC isR hC hR hnr hdis hk1 hF hP1 hD1
    exact kk r u H1 locs1 hw hP2 hD2 hS1
end CALLX
section ENDX
variable {p : Program} {l : Launch} {e : Env} {R : Room} {s : State} {m : MethodId} {args : Array Value} {below : List Frame} {meth : Method} {c : Code} {H : Heap} {locs : List Loc} {cells slots : Nat} {Q : State → Prop} {G : GG} {A : Nat → Prop} {cc : ByteArray} {pc : Nat} {ls : Array Slot} {rest : List Value} {Qc : Array Value → State → Outcome → State → Prop} {SX : Type} {E : SX → String} {px : SX → Prop} {wx : Nat → SX → va_W} {ws : va_W} {mc ms : Nat}
/-- a throw leaves the method, no row of its table covers the place -/
theorem out_x {ce : Cell} {q : Nat} (hout : ∀ x ∈ c.exceptionTable.toList, covers x pc = false) (hlk : meth.locks = false) (u : SX) (hp : px u) (hP : va_P G.1 CL (wx q u) H) (hD : va_D A (wx q u)) (hS : va_S A s.heap H locs) (hce : H[q]? = some ce) (hv : ce.vm = .none) (hcl : s.vm.findClass (E u) = some ce.cls) (hc : cells ≤ mc) (hs : slots ≤ ms) :
    vx_W p l e R s m args below meth c H locs cells slots (vx_MQ below Qc (XQ G E px wx A) args s mc ms A) (F0 m pc ls rest) q :=
  vx_out hout hlk hce hv hcl (fun t ht _ => ⟨u, hp, ⟨rfl, by rw [ht]; exact hP, hD⟩, hS.F ht⟩) hS.2.2 hc hs
theorem outP_x {own : String} {ce : Cell} {q : Nat} (hown : s.vm.findClass own = some m.cls) (u : SX) (hpass : ∀ z ∈ c.exceptionTable.toList, covers z pc = false ∨ (z.catchType ≠ 0 ∧ ∃ nm : String, (Cond.classLink own z.catchType nm).before args s = true ∧ va_Nc (E u) nm s)) (hlk : meth.locks = false) (hp : px u) (hP : va_P G.1 CL (wx q u) H) (hD : va_D A (wx q u)) (hS : va_S A s.heap H locs) (hce : H[q]? = some ce) (hv : ce.vm = .none) (hcl : s.vm.findClass (E u) = some ce.cls) (hc : cells ≤ mc) (hs : slots ≤ ms) :
    vx_W p l e R s m args below meth c H locs cells slots (vx_MQ below Qc (XQ G E px wx A) args s mc ms A) (F0 m pc ls rest) q :=
  vx_outP hown hlk hpass hce hv hcl (fun t ht _ => ⟨u, hp, ⟨rfl, by rw [ht]; exact hP, hD⟩, hS.F ht⟩) hS.2.2 hc hs
theorem F_grow {A : Nat → Prop} {H0 H : Heap} {locs : List Loc} {s t : State} (h0 : s.heap = H0) (hS : va_S A H0 H locs) (h1 : H.size ≤ t.heap.size) (h2 : ∀ q : Nat, q < H.size → t.heap[q]? = H[q]?) : va_F A s t := by
  subst h0
  exact ⟨Nat.le_trans hS.1 h1, fun q hq hn => (h2 q (Nat.lt_of_lt_of_le hq hS.1)).trans (hS.2.1 q hq hn)⟩
/-- 'throw new E()' of a library's class, no row of the table covers the place -/
theorem thr0 {own cls : String} {names : List String} {ik ic : Nat} (hx : p.tables.exec = Jvm.exec) (hb : c.code = cc) (hl : l.stackTraces = false) (hown : s.vm.findClass own = some m.cls) (hcls : Bundle.fit cls = true) (hnames : ∀ n ∈ names, Bundle.fit n = true)
    (hts : ∀ w ∈ lw_all, w.before args s = true) (hZ : KS G A s s.heap) (hk : Cond.classLink own ik cls ∈ lw_all) (hini : Cond.initialized cls ∈ lw_all) (ps : List Nat) (hp9 : vx_at0 own ic cls names = ps.filterMap (fun i => lw_tbl[i]?)) (hg9 : (vx_at0 own ic cls names).all (fun w => goodWord w || nwOk w) = true)
    (hgood : ∀ w ∈ Cond.classLink own ik cls :: Cond.initialized cls :: vx_at0 own ic cls names, vx_ot w = true) (hP : va_P G.1 CL ws H) (hD : va_D A ws) (hS : va_S A s.heap H locs) (hsize : ls.size = c.maxLocals)
    (d0 : decode cc pc = .ok (.new ik, 3)) (d3 : decode cc (pc + 3) = .ok (.dup, 1)) (d4 : decode cc (pc + 4) = .ok (.invokespecial ic, 3)) (d7 : decode cc (pc + 7) = .ok (.athrow, 1))
    (hout : ∀ x ∈ c.exceptionTable.toList, covers x (pc + 7) = false)
    (hRf : names.length + 3 < R.frames) (hRl : (rest.map fun v => v.category).sum + (13 * (names.length + 1) + 42) ≤ R.locals) (hRc : cells + 1 ≤ R.cells) (hRs : slots + 6 ≤ R.slots) (hlk : meth.locks = false)
    (u : SX) (hE : E u = cls) (hp : px u) (hw : ∀ q, wx q u = ws) (hc : cells + 1 ≤ mc) (hs : slots + 6 ≤ ms) :
    W p l e R s m args below meth c H locs cells slots (vx_MQ below Qc (XQ G E px wx A) args s mc ms A) (F0 m pc ls rest) :=
  vx_throw0 hx hb hl hown hcls hnames (hts _ hk) (hts _ hini) (hZ.all hts ps hp9 hg9) hgood hZ.zU hZ.zN hS hsize d0 d3 d4 d7 hout hRf hRl hRc hRs hlk
    (fun q9 t _ h1 h2 => ⟨u, hp, ⟨hE.symm, by rw [hw]; exact hP.kept (fun k x hx9 => h2 x.1 ((hP k x hx9).lt)), by rw [hw]; exact hD⟩, F_grow rfl hS h1 h2⟩) hS.2.2 hc hs
end ENDX
