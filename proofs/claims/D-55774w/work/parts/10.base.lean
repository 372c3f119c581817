/-! ===== base: numbers, worlds, contracts, calls ===== -/
def bI (b : Bool) : Int32 := if b = true then 1 else 0
theorem bI_eq0 {b : Bool} : bI b = 0 ↔ b = false := by cases b <;> decide
theorem bI_inj {a b : Bool} : bI a = bI b ↔ a = b := by cases a <;> cases b <;> decide
theorem bI_t : bI true = nI 1 := rfl
theorem bI_f : bI false = nI 0 := rfl
theorem bI_nar (b : Bool) : narrow .boolean (.int (bI b)) = .int (bI b) := by cases b <;> decide
theorem bI_vp (b : Bool) : vp_nar .boolean (bI b) = bI b := by cases b <;> decide
theorem bI_d1 {P : Prop} [Decidable P] (h : P) : nI 1 = bI (decide P) := by rw [decide_eq_true h]; rfl
theorem bI_d0 {P : Prop} [Decidable P] (h : ¬ P) : nI 0 = bI (decide P) := by rw [decide_eq_false h]; rfl
theorem bI_1 {b : Bool} (h : b = true) : nI 1 = bI b := by rw [h]; rfl
theorem bI_0 {b : Bool} (h : b = false) : nI 0 = bI b := by rw [h]; rfl
theorem nI_cvp {n : Nat} (h : n < 65536) : vp_nar .char (nI n) = nI n := by
  unfold vp_nar; rw [(pk_charN h).1]
def nA (L : Nat → Nat) : Nat → Int32 := fun k => nI (L k)
def bA (B : Nat → Bool) : Nat → Int32 := fun k => bI (B k)
theorem nA_up (L : Nat → Nat) (i v : Nat) : upd (nA L) i (nI v) = nA (va_up L i v) := by
  funext k; unfold upd nA va_up; split <;> rfl
theorem bA_up (B : Nat → Bool) (i : Nat) (v : Bool) : upd (bA B) i (bI v) = bA (va_up B i v) := by
  funext k; unfold upd bA va_up; split <;> rfl
theorem rA_up (f : Nat → Int32) (i : Nat) (v : Int32) : upd f i v = va_up f i v := rfl
theorem nA_cpy (L M : Nat → Nat) (a b n : Nat) : va_cpy (nA L) (nA M) a b n = nA (va_cpy L M a b n) := by
  funext k; by_cases h : b ≤ k ∧ k < b + n <;> simp [nA, va_cpy, h]
theorem bA_cpy (L M : Nat → Bool) (a b n : Nat) : va_cpy (bA L) (bA M) a b n = bA (va_cpy L M a b n) := by
  funext k; by_cases h : b ≤ k ∧ k < b + n <;> simp [bA, va_cpy, h]
abbrev RY6 : String := RX6
def TY6 : u_T := fun k => match k with
  | 0 => ("VowelTorus$Refused", "reason", "I", true)
  | _ => ("VowelTorus$Refused", "detail", "I", true)
def tyY6 : Nat → FieldType := fun _ => .int
theorem nmY6 : ∀ a, a < 2 → ∀ b, b < 2 → a ≠ b → (TY6 a).2.1 ≠ (TY6 b).2.1 := by decide +kernel
theorem tyY6_ok : ∀ k, k < 2 → parseFieldDescriptor (TY6 k).2.2.1 = some (tyY6 k) := by decide +kernel
theorem in_Y6 : ∀ w ∈ u_ws RY6 TY6 2, w ∈ lw_all := fun w h => by
  have h2 : u_ws RY6 TY6 2 = [u_lay RX6 TX6 6, u_lay RX6 TX6 7] := rfl
  rw [h2] at h
  rcases List.mem_cons.mp h with e | h
  · rw [e]; exact in_X6 _ (u_in_lay (by decide))
  · rcases List.mem_cons.mp h with e | h
    · rw [e]; exact in_X6 _ (u_in_lay (by decide))
    · cases h
abbrev RY8 : String := RX8
def TY8 : u_T := fun _ => ("VowelTorus$Fault", "position", "I", true)
def tyY8 : Nat → FieldType := fun _ => .int
theorem nmY8 : ∀ a, a < 1 → ∀ b, b < 1 → a ≠ b → (TY8 a).2.1 ≠ (TY8 b).2.1 := by decide +kernel
theorem tyY8_ok : ∀ k, k < 1 → parseFieldDescriptor (TY8 k).2.2.1 = some (tyY8 k) := by decide +kernel
theorem in_Y8 : ∀ w ∈ u_ws RY8 TY8 1, w ∈ lw_all := fun w h => by
  have h2 : u_ws RY8 TY8 1 = [u_lay RX8 TX8 6] := rfl
  rw [h2] at h
  rcases List.mem_cons.mp h with e | h
  · rw [e]; exact in_X8 _ (u_in_lay (by decide))
  · cases h
abbrev CL : List vw_C := [(RX1, TX1, 11), (RX2, TX2, 14), (RX3, TX3, 2), (RX4, TX4, 6), (RX5, TX5, 21), (RY6, TY6, 2), (RX7, TX7, 1), (RY8, TY8, 1), (RJ1, TJ1, 3), (RJ3, TJ3, 4), (RJ19, TJ19, 4), (RJ18, TJ18, 1), (RJ12, TJ12, 0), (RJ13, TJ13, 0), (RJ15, TJ15, 0), (RJ16, TJ16, 0), (RJ9, TJ9, 0), (RJ24, TJ24, 0)]
/-- the run's constants: classes and slots, array classes, the law's start and its argument -/
abbrev GG : Type := va_G × (Nat → ClassId) × State × Nat
abbrev TYS (G : GG) : List (ClassId × FieldType) := [(G.2.1 0, .boolean), (G.2.1 1, .byte), (G.2.1 2, .char), (G.2.1 3, .int), (G.2.1 4, .long), (G.2.1 5, .double), (G.2.1 6, .object "java/lang/Object")]
/-- the law's start, seen from a later state: its words, warmer tables, its cells as they were -/
def KS (G : GG) (A : Nat → Prop) (U : State) (H : Heap) : Prop := (∀ w ∈ lw_tbl, w.before #[Value.ref G.2.2.2] G.2.2.1 = true) ∧ (Jvm.Cond.and given_1 narrow_1).before #[Value.ref G.2.2.2] G.2.2.1 = true ∧ G.2.2.1.WarmedH U.vm ∧ ∀ q : Nat, q < G.2.2.1.heap.size → ¬ A q ∧ H[q]? = G.2.2.1.heap[q]?
theorem KS.down {G : GG} {A B : Nat → Prop} {s U : State} {H : Heap} {locs : List Loc} (h : KS G A s s.heap) (hS : va_S A s.heap H locs) (hB : ∀ q, B q → A q) (hW : s.WarmedH U.vm) : KS G B U H := by
  obtain ⟨h1, h2, h3, h4⟩ := h
  refine ⟨h1, h2, State.WarmedH.trans h3 hW, fun q hq => ?_⟩
  obtain ⟨n1, e1⟩ := h4 q hq
  have hlt : q < s.heap.size := by
    have : s.heap[q]? = some (G.2.2.1.heap[q]) := by rw [e1]; exact Array.getElem?_eq_some_iff.mpr ⟨hq, rfl⟩
    exact (Array.getElem?_eq_some_iff.mp this).1
  exact ⟨fun z => n1 (hB q z), (hS.2.1 q hlt n1).trans e1⟩
def nwOk : Cond → Bool
  | .castable _ _ => true
  | .declares _ => true
  | .fieldLinkNest _ _ _ _ _ _ => true
  | .methodLinkNest _ _ _ _ => true
  | _ => false
theorem KS.nw {G : GG} {A : Nat → Prop} {U : State} {H : Heap} (h : KS G A U H) {w : Cond} (hw : w ∈ lw_tbl) (ok : nwOk w = true) : va_Nw w U := by
  have h0 := h.1 w hw
  cases w <;> first | (exact absurd (show false = true from ok) (by decide)) | (exact va_Nw.warmC h.2.2.1 (va_Nw.of rfl h0)) | (exact va_Nw.warmD h.2.2.1 (va_Nw.of rfl h0)) | (exact va_Nw.warmF h.2.2.1 (va_Nw.of rfl h0)) | (exact va_Nw.warmM h.2.2.1 (va_Nw.of rfl h0))
def Pre (G : GG) (av : List Value) (ws : va_W) (sz : Nat) : Array Value → State → Prop := va_Pc av (fun U => U.heap.size = sz ∧ va_P G.1 CL ws U.heap ∧ va_K G.1 CL (TYS G) U ∧ KS G (va_A ws sz) U U.heap ∧ va_D (fun _ => True) ws)
theorem Pre.blind (G : GG) (av : List Value) (ws : va_W) (sz : Nat) : FrameBlind (Pre G av ws sz) := fun a U g mk q => by
  obtain ⟨q0, q1, qP, qK, ⟨k1, k2, k3, k4⟩, qD⟩ := q
  exact ⟨q0, q1, qP, va_K.moved (u := U) (U := U.calling g mk a) (Vm.Alike.refl U.vm) qK, ⟨k1, k2, k3, k4⟩, qD⟩
abbrev Bw (G : GG) (A : Nat → Prop) (ws : va_W) (t : State) : Prop := va_P G.1 CL ws t.heap ∧ va_D A ws
theorem cut_at {ws w : va_W} {is : List Nat} (hs : is.map (fun i => ws[i]?) = w.map some) (k : Nat) (q : Nat × va_E) (hq : w[k]? = some q) : ∃ i, is[k]? = some i ∧ ws[i]? = some q := by
  have h1 : (is.map (fun i => ws[i]?))[k]? = some (some q) := by rw [hs, List.getElem?_map, hq]; rfl
  rw [List.getElem?_map] at h1
  cases hi : is[k]? with
  | none => rw [hi] at h1; cases h1
  | some i => rw [hi] at h1; exact ⟨i, rfl, Option.some.inj h1⟩
theorem cut_P {D : va_G} {cl : List vw_C} {ws w : va_W} {H : Heap} (hP : va_P D cl ws H) (is : List Nat) (hs : is.map (fun i => ws[i]?) = w.map some) : va_P D cl w H := fun k q hq => by
  obtain ⟨i, -, h2⟩ := cut_at hs k q hq
  exact hP i q h2
/-- another order of the same cells -/
theorem re_PD {D : va_G} {cl : List vw_C} {A : Nat → Prop} {ws w : va_W} {H : Heap} (hP : va_P D cl ws H) (hD : va_D A ws) (is : List Nat) (hn : va_nd is = true) (hs : is.map (fun i => ws[i]?) = w.map some) : va_P D cl w H ∧ va_D A w := ⟨cut_P hP is hs, hD.sub is hn hs⟩
/-- what a walk of y's body may lean on -/
def Cx (p : Program) (s : State) (m : MethodId) (args : Array Value) (meth : Method) (c : Code) (own : String) (cc : ByteArray) (nL : Nat) (ret : Option FieldType) : Prop :=
  p.tables.exec = Jvm.exec ∧ c.code = cc ∧ meth.sig.returnType = ret ∧ (∀ w ∈ lw_all, w.before args s = true) ∧ s.vm.findClass own = some m.cls ∧ meth.locks = false ∧ c.maxLocals = nL
/-- a contract: the words of every method, the world in, what comes out of it -/
def MM (l : Launch) (G : GG) (y : MethodName) (cc : ByteArray) (nL : Nat) (ret : Option FieldType) (rm : Room) (av : List Value) (ws : va_W) (Qf : (Nat → Prop) → Array Value → State → Outcome → State → Prop) : Prop :=
  ∀ sz : Nat, Met l y (ws_ y cc nL ret) rm (Pre G av ws sz) (Qf (va_A ws sz)) rm.cells rm.slots (va_A ws sz)
theorem MM.of {l : Launch} {G : GG} {y : MethodName} {cc : ByteArray} {nL : Nat} {ret : Option FieldType} {rm : Room} {av : List Value} {ws : va_W} {Qf : (Nat → Prop) → Array Value → State → Outcome → State → Prop} (hy : plainName y.cls = true) (hn : (lg_sl av).length ≤ nL)
    (body : ∀ (p : Program) (e : Env) (s : State) (m : MethodId) (args : Array Value) (below : List Frame) (meth : Method) (c : Code) (A : Nat → Prop), Cx p s m args meth c y.cls cc nL ret → (y.name = "<init>" → meth.name = "<init>") → (∀ q : Nat, s.heap.size ≤ q → A q) → va_K G.1 CL (TYS G) s → KS G A s s.heap → va_P G.1 CL ws s.heap → va_D A ws → ∀ ls : Array Slot, lv_has ls nL (lv_args 0 av) →
      W p l e rm s m args below meth c s.heap [] 0 0 (MQ below (Qf A) args s rm.cells rm.slots A) (F0 m 0 ls [])) : MM l G y cc nL ret rm av ws Qf := by
  intro sz
  refine Met.ofW (cc := cc) (maxL := nL) (ret := ret) hy rfl ?_
  intro p e s m args below meth c s₁ B hml hv
  obtain ⟨rfl, hsz, hP, hK, hZ, hD0⟩ := hv
  subst hsz
  have hts := atoms_spec (ws := ws_ y cc nL ret) B.pre
  have hl := lv_entry av (n := nL) hn
  rw [lg_entry_eq]
  refine body p e s m av.toArray below meth c (va_A ws s.heap.size) ⟨B.exec, B.bytes, B.returns, fun w h => hts w (List.mem_cons_of_mem _ h), findClass_of_methodNamed B.named, B.notSynchronized, hml⟩ (fun h => (name_of_methodNamed B.named B.method).1.trans h) (fun q h => Or.inr h) hK hZ hP (hD0.self) _ hl
abbrev Qi_ (G : GG) {S : Type} (post : Int32 → S → Prop) (ws1 : S → va_W) (A : Nat → Prop) : Array Value → State → Outcome → State → Prop := va_Qi post (fun u t => Bw G A (ws1 u) t) A
abbrev Ql_ (G : GG) {S : Type} (post : Int64 → S → Prop) (ws1 : S → va_W) (A : Nat → Prop) : Array Value → State → Outcome → State → Prop := va_Ql post (fun u t => Bw G A (ws1 u) t) A
abbrev Qf_ (G : GG) {S : Type} (post : UInt32 → S → Prop) (ws1 : S → va_W) (A : Nat → Prop) : Array Value → State → Outcome → State → Prop := va_Qf post (fun u t => Bw G A (ws1 u) t) A
abbrev Qd_ (G : GG) {S : Type} (post : UInt64 → S → Prop) (ws1 : S → va_W) (A : Nat → Prop) : Array Value → State → Outcome → State → Prop := va_Qd post (fun u t => Bw G A (ws1 u) t) A
abbrev Qv_ (G : GG) {S : Type} (post : S → Prop) (ws1 : S → va_W) (A : Nat → Prop) : Array Value → State → Outcome → State → Prop := va_Qv post (fun u t => Bw G A (ws1 u) t) A
abbrev Qr_ (G : GG) {S : Type} (post : Nat → S → Prop) (ws1 : Nat → S → va_W) (A : Nat → Prop) : Array Value → State → Outcome → State → Prop := va_Qr (fun _ : S => True) (fun u a t => post a u ∧ Bw G A (ws1 a u) t) A
abbrev Qq_ (G : GG) {S : Type} (post : Option Nat → S → Prop) (ws1 : S → va_W) (A : Nat → Prop) : Array Value → State → Outcome → State → Prop := va_Qq post (fun u t => Bw G A (ws1 u) t) A
section RET
variable {p : Program} {l : Launch} {e : Env} {R : Room} {s : State} {m : MethodId} {args : Array Value} {below : List Frame} {meth : Method} {c : Code} {H : Heap} {locs : List Loc} {cells slots : Nat} {Q : State → Prop} {G : GG} {A : Nat → Prop} {cc : ByteArray} {pc : Nat} {ls : Array Slot}
theorem ret_i {S : Type} {post : Int32 → S → Prop} {ws1 : S → va_W} {v : Int32} {ty : FieldType} (hx : p.tables.exec = Jvm.exec) (hb : c.code = cc) (hr : meth.sig.returnType = some ty) (hk : meth.locks = false) (u : S) (hp : post v u) (hP : va_P G.1 CL (ws1 u) H) (hD : va_D A (ws1 u)) (hS : va_S A s.heap H locs) (hn : narrow ty (.int v) = .int v) (hd : decode cc pc = .ok (.ireturn, 1)) :
    W p l e R s m args below meth c H locs cells slots (MQ below (Qi_ G post ws1 A) args s cells slots A) (F0 m pc ls [.int v]) :=
  W.zret hx hb hr hn (fun t ht _ => ⟨⟨v, u, rfl, hp, ⟨by rw [ht]; exact hP, hD⟩⟩, hS.F ht⟩) hS.2.2 hd hk
theorem ret_v {S : Type} {post : S → Prop} {ws1 : S → va_W} (hx : p.tables.exec = Jvm.exec) (hb : c.code = cc) (hr : meth.sig.returnType = none) (hk : meth.locks = false) (u : S) (hp : post u) (hP : va_P G.1 CL (ws1 u) H) (hD : va_D A (ws1 u)) (hS : va_S A s.heap H locs) (hd : decode cc pc = .ok (.return_, 1)) :
    W p l e R s m args below meth c H locs cells slots (MQ below (Qv_ G post ws1 A) args s cells slots A) (F0 m pc ls []) :=
  W.vret hx hb hr (fun t ht _ => ⟨⟨u, rfl, hp, ⟨by rw [ht]; exact hP, hD⟩⟩, hS.F ht⟩) hS.2.2 hd hk
theorem ret_r {S : Type} {post : Nat → S → Prop} {ws1 : Nat → S → va_W} {a : Nat} {rt : FieldType} (hx : p.tables.exec = Jvm.exec) (hb : c.code = cc) (hr : meth.sig.returnType = some rt) (hrt : (∃ n, rt = .object n) ∨ ∃ t, rt = .array t) (hk : meth.locks = false) (u : S) (hp : post a u) (hP : va_P G.1 CL (ws1 a u) H) (hD : va_D A (ws1 a u)) (hS : va_S A s.heap H locs) (hd : decode cc pc = .ok (.areturn, 1)) :
    W p l e R s m args below meth c H locs cells slots (MQ below (Qr_ G post ws1 A) args s cells slots A) (F0 m pc ls [.ref a]) :=
  W.aret hx hb hr hrt (Or.inr ⟨a, rfl⟩) (fun t ht _ => ⟨⟨u, a, rfl, trivial, hp, ⟨by rw [ht]; exact hP, hD⟩⟩, hS.F ht⟩) hS.2.2 hd hk
theorem ret_q {S : Type} {post : Option Nat → S → Prop} {ws1 : S → va_W} {o : Option Nat} {rt : FieldType} (hx : p.tables.exec = Jvm.exec) (hb : c.code = cc) (hr : meth.sig.returnType = some rt) (hrt : (∃ n, rt = .object n) ∨ ∃ t, rt = .array t) (hk : meth.locks = false) (u : S) (hp : post o u) (hP : va_P G.1 CL (ws1 u) H) (hD : va_D A (ws1 u)) (hS : va_S A s.heap H locs) (hd : decode cc pc = .ok (.areturn, 1)) :
    W p l e R s m args below meth c H locs cells slots (MQ below (Qq_ G post ws1 A) args s cells slots A) (F0 m pc ls [va_rf o]) :=
  W.aret hx hb hr hrt (va_rf_or o) (fun t ht _ => ⟨⟨o, u, rfl, hp, ⟨by rw [ht]; exact hP, hD⟩⟩, hS.F ht⟩) hS.2.2 hd hk
theorem ret_f {S : Type} {post : UInt32 → S → Prop} {ws1 : S → va_W} {v : UInt32} (hx : p.tables.exec = Jvm.exec) (hb : c.code = cc) (hr : meth.sig.returnType = some .float) (hk : meth.locks = false) (u : S) (hp : post v u) (hP : va_P G.1 CL (ws1 u) H) (hD : va_D A (ws1 u)) (hS : va_S A s.heap H locs) (hd : decode cc pc = .ok (.freturn, 1)) :
    W p l e R s m args below meth c H locs cells slots (MQ below (Qf_ G post ws1 A) args s cells slots A) (F0 m pc ls [.float v]) :=
  W.fret hx hb hr (fun t ht _ => ⟨⟨v, u, rfl, hp, ⟨by rw [ht]; exact hP, hD⟩⟩, hS.F ht⟩) hS.2.2 hd hk
theorem ret_d {S : Type} {post : UInt64 → S → Prop} {ws1 : S → va_W} {v : UInt64} (hx : p.tables.exec = Jvm.exec) (hb : c.code = cc) (hr : meth.sig.returnType = some .double) (hk : meth.locks = false) (u : S) (hp : post v u) (hP : va_P G.1 CL (ws1 u) H) (hD : va_D A (ws1 u)) (hS : va_S A s.heap H locs) (hd : decode cc pc = .ok (.dreturn, 1)) :
    W p l e R s m args below meth c H locs cells slots (MQ below (Qd_ G post ws1 A) args s cells slots A) (F0 m pc ls [.double v]) :=
  W.dret hx hb hr (fun t ht _ => ⟨⟨v, u, rfl, hp, ⟨by rw [ht]; exact hP, hD⟩⟩, hS.F ht⟩) hS.2.2 hd hk
end RET
theorem pre_S {G : GG} {A : Nat → Prop} {s : State} {H : Heap} {locs : List Loc} {As : List Value} {wc : va_W} (hK : va_K G.1 CL (TYS G) s) (hZ : KS G A s s.heap) (hS : va_S A s.heap H locs) (hP : va_P G.1 CL wc H) (hD : va_D A wc) (hF : ∀ q, va_A wc H.size q → A q) : PreS s H (Pre G As wc H.size) As :=
  ⟨Pre.blind _ _ _ _, fun U hU hW => ⟨rfl, by rw [hU], by rw [hU]; exact hP, va_K.moved hW.alike hK, by rw [hU]; exact hZ.down hS hF hW, hD.weaken (fun _ _ _ _ => trivial)⟩⟩
theorem pre_V {G : GG} {A : Nat → Prop} {s : State} {H : Heap} {locs : List Loc} {As : List Value} {b : Nat} {wc : va_W} (hK : va_K G.1 CL (TYS G) s) (hZ : KS G A s s.heap) (hS : va_S A s.heap H locs) (hP : va_P G.1 CL wc H) (hD : va_D A wc) (hF : ∀ q, va_A wc H.size q → A q) {ci q0 : Nat} {q : vw_C} {fs : List Value} (hc : CL[ci]? = some q) (he : wc[q0]? = some (b, .inr (ci, fs))) : PreV s H q.1 b (Pre G (.ref b :: As) wc H.size) As :=
  ⟨Pre.blind _ _ _ _, va_recv hK hP hc he, fun U hU hW => ⟨rfl, by rw [hU], by rw [hU]; exact hP, va_K.moved hW.alike hK, by rw [hU]; exact hZ.down hS hF hW, hD.weaken (fun _ _ _ _ => trivial)⟩⟩
theorem free_of {A : Nat → Prop} {s : State} {ws wc : va_W} {H : Heap} {locs : List Loc} (hA : ∀ q : Nat, s.heap.size ≤ q → A q) (hD : va_D A ws) (hS : va_S A s.heap H locs) (isC : List Nat) (hC : isC.map (fun i => ws[i]?) = wc.map some) : ∀ q, va_A wc H.size q → A q := va_free hD hS hA isC hC
section CALL
variable {p : Program} {l : Launch} {e : Env} {R : Room} {s : State} {m : MethodId} {args : Array Value} {below : List Frame} {meth : Method} {c : Code} {H : Heap} {locs : List Loc} {cells slots : Nat} {Q : State → Prop} {G : GG} {A : Nat → Prop} {cc bytes : ByteArray} {pc : Nat} {ls : Array Slot} {own : String} {index nL maxL n : Nat} {y : MethodName} {ret : Option FieldType} {rm : Room} {As rest st0 : List Value} {b : Nat} {ws wc wr : va_W}
theorem callVi {q : vw_C} {S : Type} {post : Int32 → S → Prop} {ws1 : S → va_W} (C9 : CallFix p m c cc nL s args lw_all own) (hM : MM l G y bytes maxL ret rm (.ref b :: As) wc (Qi_ G post ws1)) (cw : CallW R s args own q.1 index y bytes maxL ret (ws_ y bytes maxL ret) rm rm.cells rm.slots n) (hK : va_K G.1 CL (TYS G) s) (hZ : KS G A s s.heap) (hA : ∀ q : Nat, s.heap.size ≤ q → A q) (hP : va_P G.1 CL ws H) (hD : va_D A ws) (hS : va_S A s.heap H locs) (isC isR : List Nat) (hC : isC.map (fun i => ws[i]?) = wc.map some) (hR : isR.map (fun i => ws[i]?) = wr.map some) (hnc : va_nd isC = true) (hnr : va_nd isR = true) (hdis : ∀ i ∈ isR, i ∉ isC) (q0 ci : Nat) {fs : List Value} (hc : CL[ci]? = some q) (he : wc[q0]? = some (b, .inr (ci, fs))) (hn : As.length = n) (hsz : ls.size = nL) (hrest : (rest.map fun v => v.category).sum ≤ 8) (hf : cells + rm.cells ≤ R.cells ∧ slots + rm.slots ≤ R.slots) (hst : st0 = As.reverse ++ .ref b :: rest) (hd : decode cc pc = .ok (.invokevirtual index, 3))
    (kk : ∀ (r : Int32) (u : S) (H1 : Heap) (locs1 : List Loc), post r u → va_P G.1 CL (wr ++ ws1 u) H1 → va_D A (wr ++ ws1 u) → va_S A s.heap H1 locs1 → W p l e R s m args below meth c H1 locs1 (cells + rm.cells) (slots + rm.slots) Q (F0 m (pc + 3) ls (.int r :: rest))) : W p l e R s m args below meth c H locs cells slots Q (F0 m pc ls st0) := by
  have hF := free_of hA hD hS isC hC
  have hPc := cut_P hP isC hC
  have hDc := hD.sub isC hnc hC
  refine va_calli (va_runV (rest := rest) C9 (hM H.size) cw (pre_V hK hZ hS hPc hDc hF hc he) rfl hn hsz hst (lv_room hrest) hd hf) hS (fun q _ h => hF q h) hF (fun r u t H1 locs1 ht hvm hw hB hz1 hk1 hS1 => ?_)
  obtain ⟨hP1, hD1⟩ := hB
  rw [ht] at hP1
  obtain ⟨hP2, hD2⟩ := va_join (wr := wr) hP hD isC isR hC hR hnr hdis hk1 hF hP1 hD1
  exact kk r u H1 locs1 hw hP2 hD2 hS1
theorem callVv {q : vw_C} {S : Type} {post : S → Prop} {ws1 : S → va_W} (C9 : CallFix p m c cc nL s args lw_all own) (hM : MM l G y bytes maxL ret rm (.ref b :: As) wc (Qv_ G post ws1)) (cw : CallW R s args own q.1 index y bytes maxL ret (ws_ y bytes maxL ret) rm rm.cells rm.slots n) (hK : va_K G.1 CL (TYS G) s) (hZ : KS G A s s.heap) (hA : ∀ q : Nat, s.heap.size ≤ q → A q) (hP : va_P G.1 CL ws H) (hD : va_D A ws) (hS : va_S A s.heap H locs) (isC isR : List Nat) (hC : isC.map (fun i => ws[i]?) = wc.map some) (hR : isR.map (fun i => ws[i]?) = wr.map some) (hnc : va_nd isC = true) (hnr : va_nd isR = true) (hdis : ∀ i ∈ isR, i ∉ isC) (q0 ci : Nat) {fs : List Value} (hc : CL[ci]? = some q) (he : wc[q0]? = some (b, .inr (ci, fs))) (hn : As.length = n) (hsz : ls.size = nL) (hrest : (rest.map fun v => v.category).sum ≤ 8) (hf : cells + rm.cells ≤ R.cells ∧ slots + rm.slots ≤ R.slots) (hst : st0 = As.reverse ++ .ref b :: rest) (hd : decode cc pc = .ok (.invokevirtual index, 3))
    (kk : ∀ (u : S) (H1 : Heap) (locs1 : List Loc), post u → va_P G.1 CL (wr ++ ws1 u) H1 → va_D A (wr ++ ws1 u) → va_S A s.heap H1 locs1 → W p l e R s m args below meth c H1 locs1 (cells + rm.cells) (slots + rm.slots) Q (F0 m (pc + 3) ls rest)) : W p l e R s m args below meth c H locs cells slots Q (F0 m pc ls st0) := by
  have hF := free_of hA hD hS isC hC
  have hPc := cut_P hP isC hC
  have hDc := hD.sub isC hnc hC
  refine va_callv (va_runV (rest := rest) C9 (hM H.size) cw (pre_V hK hZ hS hPc hDc hF hc he) rfl hn hsz hst (lv_room hrest) hd hf) hS (fun q _ h => hF q h) hF (fun u t H1 locs1 ht hvm hw hB hz1 hk1 hS1 => ?_)
  obtain ⟨hP1, hD1⟩ := hB
  rw [ht] at hP1
  obtain ⟨hP2, hD2⟩ := va_join (wr := wr) hP hD isC isR hC hR hnr hdis hk1 hF hP1 hD1
  exact kk u H1 locs1 hw hP2 hD2 hS1
theorem callVr {q : vw_C} {S : Type} {post : Nat → S → Prop} {ws1 : Nat → S → va_W} (C9 : CallFix p m c cc nL s args lw_all own) (hM : MM l G y bytes maxL ret rm (.ref b :: As) wc (Qr_ G post ws1)) (cw : CallW R s args own q.1 index y bytes maxL ret (ws_ y bytes maxL ret) rm rm.cells rm.slots n) (hK : va_K G.1 CL (TYS G) s) (hZ : KS G A s s.heap) (hA : ∀ q : Nat, s.heap.size ≤ q → A q) (hP : va_P G.1 CL ws H) (hD : va_D A ws) (hS : va_S A s.heap H locs) (isC isR : List Nat) (hC : isC.map (fun i => ws[i]?) = wc.map some) (hR : isR.map (fun i => ws[i]?) = wr.map some) (hnc : va_nd isC = true) (hnr : va_nd isR = true) (hdis : ∀ i ∈ isR, i ∉ isC) (q0 ci : Nat) {fs : List Value} (hc : CL[ci]? = some q) (he : wc[q0]? = some (b, .inr (ci, fs))) (hn : As.length = n) (hsz : ls.size = nL) (hrest : (rest.map fun v => v.category).sum ≤ 8) (hf : cells + rm.cells ≤ R.cells ∧ slots + rm.slots ≤ R.slots) (hst : st0 = As.reverse ++ .ref b :: rest) (hd : decode cc pc = .ok (.invokevirtual index, 3))
    (kk : ∀ (r : Nat) (u : S) (H1 : Heap) (locs1 : List Loc), post r u → va_P G.1 CL (wr ++ ws1 r u) H1 → va_D A (wr ++ ws1 r u) → va_S A s.heap H1 locs1 → W p l e R s m args below meth c H1 locs1 (cells + rm.cells) (slots + rm.slots) Q (F0 m (pc + 3) ls (.ref r :: rest))) : W p l e R s m args below meth c H locs cells slots Q (F0 m pc ls st0) := by
  have hF := free_of hA hD hS isC hC
  have hPc := cut_P hP isC hC
  have hDc := hD.sub isC hnc hC
  refine va_callr (va_runV (rest := rest) C9 (hM H.size) cw (pre_V hK hZ hS hPc hDc hF hc he) rfl hn hsz hst (lv_room hrest) hd hf) hS (fun q _ h => hF q h) hF (fun u r t H1 locs1 ht hvm hw hB hz1 hk1 hS1 => ?_)
  obtain ⟨hw9, hB⟩ := hB
  obtain ⟨hP1, hD1⟩ := hB
  rw [ht] at hP1
  obtain ⟨hP2, hD2⟩ := va_join (wr := wr) hP hD isC isR hC hR hnr hdis hk1 hF hP1 hD1
  exact kk r u H1 locs1 hw9 hP2 hD2 hS1
theorem callVq {q : vw_C} {S : Type} {post : Option Nat → S → Prop} {ws1 : S → va_W} (C9 : CallFix p m c cc nL s args lw_all own) (hM : MM l G y bytes maxL ret rm (.ref b :: As) wc (Qq_ G post ws1)) (cw : CallW R s args own q.1 index y bytes maxL ret (ws_ y bytes maxL ret) rm rm.cells rm.slots n) (hK : va_K G.1 CL (TYS G) s) (hZ : KS G A s s.heap) (hA : ∀ q : Nat, s.heap.size ≤ q → A q) (hP : va_P G.1 CL ws H) (hD : va_D A ws) (hS : va_S A s.heap H locs) (isC isR : List Nat) (hC : isC.map (fun i => ws[i]?) = wc.map some) (hR : isR.map (fun i => ws[i]?) = wr.map some) (hnc : va_nd isC = true) (hnr : va_nd isR = true) (hdis : ∀ i ∈ isR, i ∉ isC) (q0 ci : Nat) {fs : List Value} (hc : CL[ci]? = some q) (he : wc[q0]? = some (b, .inr (ci, fs))) (hn : As.length = n) (hsz : ls.size = nL) (hrest : (rest.map fun v => v.category).sum ≤ 8) (hf : cells + rm.cells ≤ R.cells ∧ slots + rm.slots ≤ R.slots) (hst : st0 = As.reverse ++ .ref b :: rest) (hd : decode cc pc = .ok (.invokevirtual index, 3))
    (kk : ∀ (r : Option Nat) (u : S) (H1 : Heap) (locs1 : List Loc), post r u → va_P G.1 CL (wr ++ ws1 u) H1 → va_D A (wr ++ ws1 u) → va_S A s.heap H1 locs1 → W p l e R s m args below meth c H1 locs1 (cells + rm.cells) (slots + rm.slots) Q (F0 m (pc + 3) ls (va_rf r :: rest))) : W p l e R s m args below meth c H locs cells slots Q (F0 m pc ls st0) := by
  have hF := free_of hA hD hS isC hC
  have hPc := cut_P hP isC hC
  have hDc := hD.sub isC hnc hC
  refine va_callq (va_runV (rest := rest) C9 (hM H.size) cw (pre_V hK hZ hS hPc hDc hF hc he) rfl hn hsz hst (lv_room hrest) hd hf) hS (fun q _ h => hF q h) hF (fun r u t H1 locs1 ht hvm hw hB hz1 hk1 hS1 => ?_)
  obtain ⟨hP1, hD1⟩ := hB
  rw [ht] at hP1
  obtain ⟨hP2, hD2⟩ := va_join (wr := wr) hP hD isC isR hC hR hnr hdis hk1 hF hP1 hD1
  exact kk r u H1 locs1 hw hP2 hD2 hS1
theorem callVd {q : vw_C} {S : Type} {post : UInt64 → S → Prop} {ws1 : S → va_W} (C9 : CallFix p m c cc nL s args lw_all own) (hM : MM l G y bytes maxL ret rm (.ref b :: As) wc (Qd_ G post ws1)) (cw : CallW R s args own q.1 index y bytes maxL ret (ws_ y bytes maxL ret) rm rm.cells rm.slots n) (hK : va_K G.1 CL (TYS G) s) (hZ : KS G A s s.heap) (hA : ∀ q : Nat, s.heap.size ≤ q → A q) (hP : va_P G.1 CL ws H) (hD : va_D A ws) (hS : va_S A s.heap H locs) (isC isR : List Nat) (hC : isC.map (fun i => ws[i]?) = wc.map some) (hR : isR.map (fun i => ws[i]?) = wr.map some) (hnc : va_nd isC = true) (hnr : va_nd isR = true) (hdis : ∀ i ∈ isR, i ∉ isC) (q0 ci : Nat) {fs : List Value} (hc : CL[ci]? = some q) (he : wc[q0]? = some (b, .inr (ci, fs))) (hn : As.length = n) (hsz : ls.size = nL) (hrest : (rest.map fun v => v.category).sum ≤ 8) (hf : cells + rm.cells ≤ R.cells ∧ slots + rm.slots ≤ R.slots) (hst : st0 = As.reverse ++ .ref b :: rest) (hd : decode cc pc = .ok (.invokevirtual index, 3))
    (kk : ∀ (r : UInt64) (u : S) (H1 : Heap) (locs1 : List Loc), post r u → va_P G.1 CL (wr ++ ws1 u) H1 → va_D A (wr ++ ws1 u) → va_S A s.heap H1 locs1 → W p l e R s m args below meth c H1 locs1 (cells + rm.cells) (slots + rm.slots) Q (F0 m (pc + 3) ls (.double r :: rest))) : W p l e R s m args below meth c H locs cells slots Q (F0 m pc ls st0) := by
  have hF := free_of hA hD hS isC hC
  have hPc := cut_P hP isC hC
  have hDc := hD.sub isC hnc hC
  refine va_calld (va_runV (rest := rest) C9 (hM H.size) cw (pre_V hK hZ hS hPc hDc hF hc he) rfl hn hsz hst (lv_room hrest) hd hf) hS (fun q _ h => hF q h) hF (fun r u t H1 locs1 ht hvm hw hB hz1 hk1 hS1 => ?_)
  obtain ⟨hP1, hD1⟩ := hB
  rw [ht] at hP1
  obtain ⟨hP2, hD2⟩ := va_join (wr := wr) hP hD isC isR hC hR hnr hdis hk1 hF hP1 hD1
  exact kk r u H1 locs1 hw hP2 hD2 hS1
theorem callVf {q : vw_C} {S : Type} {post : UInt32 → S → Prop} {ws1 : S → va_W} (C9 : CallFix p m c cc nL s args lw_all own) (hM : MM l G y bytes maxL ret rm (.ref b :: As) wc (Qf_ G post ws1)) (cw : CallW R s args own q.1 index y bytes maxL ret (ws_ y bytes maxL ret) rm rm.cells rm.slots n) (hK : va_K G.1 CL (TYS G) s) (hZ : KS G A s s.heap) (hA : ∀ q : Nat, s.heap.size ≤ q → A q) (hP : va_P G.1 CL ws H) (hD : va_D A ws) (hS : va_S A s.heap H locs) (isC isR : List Nat) (hC : isC.map (fun i => ws[i]?) = wc.map some) (hR : isR.map (fun i => ws[i]?) = wr.map some) (hnc : va_nd isC = true) (hnr : va_nd isR = true) (hdis : ∀ i ∈ isR, i ∉ isC) (q0 ci : Nat) {fs : List Value} (hc : CL[ci]? = some q) (he : wc[q0]? = some (b, .inr (ci, fs))) (hn : As.length = n) (hsz : ls.size = nL) (hrest : (rest.map fun v => v.category).sum ≤ 8) (hf : cells + rm.cells ≤ R.cells ∧ slots + rm.slots ≤ R.slots) (hst : st0 = As.reverse ++ .ref b :: rest) (hd : decode cc pc = .ok (.invokevirtual index, 3))
    (kk : ∀ (r : UInt32) (u : S) (H1 : Heap) (locs1 : List Loc), post r u → va_P G.1 CL (wr ++ ws1 u) H1 → va_D A (wr ++ ws1 u) → va_S A s.heap H1 locs1 → W p l e R s m args below meth c H1 locs1 (cells + rm.cells) (slots + rm.slots) Q (F0 m (pc + 3) ls (.float r :: rest))) : W p l e R s m args below meth c H locs cells slots Q (F0 m pc ls st0) := by
  have hF := free_of hA hD hS isC hC
  have hPc := cut_P hP isC hC
  have hDc := hD.sub isC hnc hC
  refine va_callf (va_runV (rest := rest) C9 (hM H.size) cw (pre_V hK hZ hS hPc hDc hF hc he) rfl hn hsz hst (lv_room hrest) hd hf) hS (fun q _ h => hF q h) hF (fun r u t H1 locs1 ht hvm hw hB hz1 hk1 hS1 => ?_)
  obtain ⟨hP1, hD1⟩ := hB
  rw [ht] at hP1
  obtain ⟨hP2, hD2⟩ := va_join (wr := wr) hP hD isC isR hC hR hnr hdis hk1 hF hP1 hD1
  exact kk r u H1 locs1 hw hP2 hD2 hS1
theorem callSi  {S : Type} {post : Int32 → S → Prop} {ws1 : S → va_W} (C9 : CallFix p m c cc nL s args lw_all own) (hM : MM l G y bytes maxL ret rm As wc (Qi_ G post ws1)) (cw : CallB R s args own index y bytes maxL ret (ws_ y bytes maxL ret) rm rm.cells rm.slots n ∧ (Cond.static y).before args s = true) (hK : va_K G.1 CL (TYS G) s) (hZ : KS G A s s.heap) (hA : ∀ q : Nat, s.heap.size ≤ q → A q) (hP : va_P G.1 CL ws H) (hD : va_D A ws) (hS : va_S A s.heap H locs) (isC isR : List Nat) (hC : isC.map (fun i => ws[i]?) = wc.map some) (hR : isR.map (fun i => ws[i]?) = wr.map some) (hnc : va_nd isC = true) (hnr : va_nd isR = true) (hdis : ∀ i ∈ isR, i ∉ isC)  (hn : As.length = n) (hsz : ls.size = nL) (hrest : (rest.map fun v => v.category).sum ≤ 8) (hf : cells + rm.cells ≤ R.cells ∧ slots + rm.slots ≤ R.slots) (hst : st0 = As.reverse ++ rest) (hd : decode cc pc = .ok (.invokestatic index, 3))
    (kk : ∀ (r : Int32) (u : S) (H1 : Heap) (locs1 : List Loc), post r u → va_P G.1 CL (wr ++ ws1 u) H1 → va_D A (wr ++ ws1 u) → va_S A s.heap H1 locs1 → W p l e R s m args below meth c H1 locs1 (cells + rm.cells) (slots + rm.slots) Q (F0 m (pc + 3) ls (.int r :: rest))) : W p l e R s m args below meth c H locs cells slots Q (F0 m pc ls st0) := by
  have hF := free_of hA hD hS isC hC
  have hPc := cut_P hP isC hC
  have hDc := hD.sub isC hnc hC
  refine va_calli (va_runS (rest := rest) C9 (hM H.size) cw (pre_S hK hZ hS hPc hDc hF) rfl hn hsz hst (lv_room hrest) hd hf) hS (fun q _ h => hF q h) hF (fun r u t H1 locs1 ht hvm hw hB hz1 hk1 hS1 => ?_)
  obtain ⟨hP1, hD1⟩ := hB
  rw [ht] at hP1
  obtain ⟨hP2, hD2⟩ := va_join (wr := wr) hP hD isC isR hC hR hnr hdis hk1 hF hP1 hD1
  exact kk r u H1 locs1 hw hP2 hD2 hS1
theorem callSv  {S : Type} {post : S → Prop} {ws1 : S → va_W} (C9 : CallFix p m c cc nL s args lw_all own) (hM : MM l G y bytes maxL ret rm As wc (Qv_ G post ws1)) (cw : CallB R s args own index y bytes maxL ret (ws_ y bytes maxL ret) rm rm.cells rm.slots n ∧ (Cond.static y).before args s = true) (hK : va_K G.1 CL (TYS G) s) (hZ : KS G A s s.heap) (hA : ∀ q : Nat, s.heap.size ≤ q → A q) (hP : va_P G.1 CL ws H) (hD : va_D A ws) (hS : va_S A s.heap H locs) (isC isR : List Nat) (hC : isC.map (fun i => ws[i]?) = wc.map some) (hR : isR.map (fun i => ws[i]?) = wr.map some) (hnc : va_nd isC = true) (hnr : va_nd isR = true) (hdis : ∀ i ∈ isR, i ∉ isC)  (hn : As.length = n) (hsz : ls.size = nL) (hrest : (rest.map fun v => v.category).sum ≤ 8) (hf : cells + rm.cells ≤ R.cells ∧ slots + rm.slots ≤ R.slots) (hst : st0 = As.reverse ++ rest) (hd : decode cc pc = .ok (.invokestatic index, 3))
    (kk : ∀ (u : S) (H1 : Heap) (locs1 : List Loc), post u → va_P G.1 CL (wr ++ ws1 u) H1 → va_D A (wr ++ ws1 u) → va_S A s.heap H1 locs1 → W p l e R s m args below meth c H1 locs1 (cells + rm.cells) (slots + rm.slots) Q (F0 m (pc + 3) ls rest)) : W p l e R s m args below meth c H locs cells slots Q (F0 m pc ls st0) := by
  have hF := free_of hA hD hS isC hC
  have hPc := cut_P hP isC hC
  have hDc := hD.sub isC hnc hC
  refine va_callv (va_runS (rest := rest) C9 (hM H.size) cw (pre_S hK hZ hS hPc hDc hF) rfl hn hsz hst (lv_room hrest) hd hf) hS (fun q _ h => hF q h) hF (fun u t H1 locs1 ht hvm hw hB hz1 hk1 hS1 => ?_)
  obtain ⟨hP1, hD1⟩ := hB
  rw [ht] at hP1
  obtain ⟨hP2, hD2⟩ := va_join (wr := wr) hP hD isC isR hC hR hnr hdis hk1 hF hP1 hD1
  exact kk u H1 locs1 hw hP2 hD2 hS1
theorem callSr  {S : Type} {post : Nat → S → Prop} {ws1 : Nat → S → va_W} (C9 : CallFix p m c cc nL s args lw_all own) (hM : MM l G y bytes maxL ret rm As wc (Qr_ G post ws1)) (cw : CallB R s args own index y bytes maxL ret (ws_ y bytes maxL ret) rm rm.cells rm.slots n ∧ (Cond.static y).before args s = true) (hK : va_K G.1 CL (TYS G) s) (hZ : KS G A s s.heap) (hA : ∀ q : Nat, s.heap.size ≤ q → A q) (hP : va_P G.1 CL ws H) (hD : va_D A ws) (hS : va_S A s.heap H locs) (isC isR : List Nat) (hC : isC.map (fun i => ws[i]?) = wc.map some) (hR : isR.map (fun i => ws[i]?) = wr.map some) (hnc : va_nd isC = true) (hnr : va_nd isR = true) (hdis : ∀ i ∈ isR, i ∉ isC)  (hn : As.length = n) (hsz : ls.size = nL) (hrest : (rest.map fun v => v.category).sum ≤ 8) (hf : cells + rm.cells ≤ R.cells ∧ slots + rm.slots ≤ R.slots) (hst : st0 = As.reverse ++ rest) (hd : decode cc pc = .ok (.invokestatic index, 3))
    (kk : ∀ (r : Nat) (u : S) (H1 : Heap) (locs1 : List Loc), post r u → va_P G.1 CL (wr ++ ws1 r u) H1 → va_D A (wr ++ ws1 r u) → va_S A s.heap H1 locs1 → W p l e R s m args below meth c H1 locs1 (cells + rm.cells) (slots + rm.slots) Q (F0 m (pc + 3) ls (.ref r :: rest))) : W p l e R s m args below meth c H locs cells slots Q (F0 m pc ls st0) := by
  have hF := free_of hA hD hS isC hC
  have hPc := cut_P hP isC hC
  have hDc := hD.sub isC hnc hC
  refine va_callr (va_runS (rest := rest) C9 (hM H.size) cw (pre_S hK hZ hS hPc hDc hF) rfl hn hsz hst (lv_room hrest) hd hf) hS (fun q _ h => hF q h) hF (fun u r t H1 locs1 ht hvm hw hB hz1 hk1 hS1 => ?_)
  obtain ⟨hw9, hB⟩ := hB
  obtain ⟨hP1, hD1⟩ := hB
  rw [ht] at hP1
  obtain ⟨hP2, hD2⟩ := va_join (wr := wr) hP hD isC isR hC hR hnr hdis hk1 hF hP1 hD1
  exact kk r u H1 locs1 hw9 hP2 hD2 hS1
theorem callSq  {S : Type} {post : Option Nat → S → Prop} {ws1 : S → va_W} (C9 : CallFix p m c cc nL s args lw_all own) (hM : MM l G y bytes maxL ret rm As wc (Qq_ G post ws1)) (cw : CallB R s args own index y bytes maxL ret (ws_ y bytes maxL ret) rm rm.cells rm.slots n ∧ (Cond.static y).before args s = true) (hK : va_K G.1 CL (TYS G) s) (hZ : KS G A s s.heap) (hA : ∀ q : Nat, s.heap.size ≤ q → A q) (hP : va_P G.1 CL ws H) (hD : va_D A ws) (hS : va_S A s.heap H locs) (isC isR : List Nat) (hC : isC.map (fun i => ws[i]?) = wc.map some) (hR : isR.map (fun i => ws[i]?) = wr.map some) (hnc : va_nd isC = true) (hnr : va_nd isR = true) (hdis : ∀ i ∈ isR, i ∉ isC)  (hn : As.length = n) (hsz : ls.size = nL) (hrest : (rest.map fun v => v.category).sum ≤ 8) (hf : cells + rm.cells ≤ R.cells ∧ slots + rm.slots ≤ R.slots) (hst : st0 = As.reverse ++ rest) (hd : decode cc pc = .ok (.invokestatic index, 3))
    (kk : ∀ (r : Option Nat) (u : S) (H1 : Heap) (locs1 : List Loc), post r u → va_P G.1 CL (wr ++ ws1 u) H1 → va_D A (wr ++ ws1 u) → va_S A s.heap H1 locs1 → W p l e R s m args below meth c H1 locs1 (cells + rm.cells) (slots + rm.slots) Q (F0 m (pc + 3) ls (va_rf r :: rest))) : W p l e R s m args below meth c H locs cells slots Q (F0 m pc ls st0) := by
  have hF := free_of hA hD hS isC hC
  have hPc := cut_P hP isC hC
  have hDc := hD.sub isC hnc hC
  refine va_callq (va_runS (rest := rest) C9 (hM H.size) cw (pre_S hK hZ hS hPc hDc hF) rfl hn hsz hst (lv_room hrest) hd hf) hS (fun q _ h => hF q h) hF (fun r u t H1 locs1 ht hvm hw hB hz1 hk1 hS1 => ?_)
  obtain ⟨hP1, hD1⟩ := hB
  rw [ht] at hP1
  obtain ⟨hP2, hD2⟩ := va_join (wr := wr) hP hD isC isR hC hR hnr hdis hk1 hF hP1 hD1
  exact kk r u H1 locs1 hw hP2 hD2 hS1
theorem callSd  {S : Type} {post : UInt64 → S → Prop} {ws1 : S → va_W} (C9 : CallFix p m c cc nL s args lw_all own) (hM : MM l G y bytes maxL ret rm As wc (Qd_ G post ws1)) (cw : CallB R s args own index y bytes maxL ret (ws_ y bytes maxL ret) rm rm.cells rm.slots n ∧ (Cond.static y).before args s = true) (hK : va_K G.1 CL (TYS G) s) (hZ : KS G A s s.heap) (hA : ∀ q : Nat, s.heap.size ≤ q → A q) (hP : va_P G.1 CL ws H) (hD : va_D A ws) (hS : va_S A s.heap H locs) (isC isR : List Nat) (hC : isC.map (fun i => ws[i]?) = wc.map some) (hR : isR.map (fun i => ws[i]?) = wr.map some) (hnc : va_nd isC = true) (hnr : va_nd isR = true) (hdis : ∀ i ∈ isR, i ∉ isC)  (hn : As.length = n) (hsz : ls.size = nL) (hrest : (rest.map fun v => v.category).sum ≤ 8) (hf : cells + rm.cells ≤ R.cells ∧ slots + rm.slots ≤ R.slots) (hst : st0 = As.reverse ++ rest) (hd : decode cc pc = .ok (.invokestatic index, 3))
    (kk : ∀ (r : UInt64) (u : S) (H1 : Heap) (locs1 : List Loc), post r u → va_P G.1 CL (wr ++ ws1 u) H1 → va_D A (wr ++ ws1 u) → va_S A s.heap H1 locs1 → W p l e R s m args below meth c H1 locs1 (cells + rm.cells) (slots + rm.slots) Q (F0 m (pc + 3) ls (.double r :: rest))) : W p l e R s m args below meth c H locs cells slots Q (F0 m pc ls st0) := by
  have hF := free_of hA hD hS isC hC
  have hPc := cut_P hP isC hC
  have hDc := hD.sub isC hnc hC
  refine va_calld (va_runS (rest := rest) C9 (hM H.size) cw (pre_S hK hZ hS hPc hDc hF) rfl hn hsz hst (lv_room hrest) hd hf) hS (fun q _ h => hF q h) hF (fun r u t H1 locs1 ht hvm hw hB hz1 hk1 hS1 => ?_)
  obtain ⟨hP1, hD1⟩ := hB
  rw [ht] at hP1
  obtain ⟨hP2, hD2⟩ := va_join (wr := wr) hP hD isC isR hC hR hnr hdis hk1 hF hP1 hD1
  exact kk r u H1 locs1 hw hP2 hD2 hS1
theorem callSf  {S : Type} {post : UInt32 → S → Prop} {ws1 : S → va_W} (C9 : CallFix p m c cc nL s args lw_all own) (hM : MM l G y bytes maxL ret rm As wc (Qf_ G post ws1)) (cw : CallB R s args own index y bytes maxL ret (ws_ y bytes maxL ret) rm rm.cells rm.slots n ∧ (Cond.static y).before args s = true) (hK : va_K G.1 CL (TYS G) s) (hZ : KS G A s s.heap) (hA : ∀ q : Nat, s.heap.size ≤ q → A q) (hP : va_P G.1 CL ws H) (hD : va_D A ws) (hS : va_S A s.heap H locs) (isC isR : List Nat) (hC : isC.map (fun i => ws[i]?) = wc.map some) (hR : isR.map (fun i => ws[i]?) = wr.map some) (hnc : va_nd isC = true) (hnr : va_nd isR = true) (hdis : ∀ i ∈ isR, i ∉ isC)  (hn : As.length = n) (hsz : ls.size = nL) (hrest : (rest.map fun v => v.category).sum ≤ 8) (hf : cells + rm.cells ≤ R.cells ∧ slots + rm.slots ≤ R.slots) (hst : st0 = As.reverse ++ rest) (hd : decode cc pc = .ok (.invokestatic index, 3))
    (kk : ∀ (r : UInt32) (u : S) (H1 : Heap) (locs1 : List Loc), post r u → va_P G.1 CL (wr ++ ws1 u) H1 → va_D A (wr ++ ws1 u) → va_S A s.heap H1 locs1 → W p l e R s m args below meth c H1 locs1 (cells + rm.cells) (slots + rm.slots) Q (F0 m (pc + 3) ls (.float r :: rest))) : W p l e R s m args below meth c H locs cells slots Q (F0 m pc ls st0) := by
  have hF := free_of hA hD hS isC hC
  have hPc := cut_P hP isC hC
  have hDc := hD.sub isC hnc hC
  refine va_callf (va_runS (rest := rest) C9 (hM H.size) cw (pre_S hK hZ hS hPc hDc hF) rfl hn hsz hst (lv_room hrest) hd hf) hS (fun q _ h => hF q h) hF (fun r u t H1 locs1 ht hvm hw hB hz1 hk1 hS1 => ?_)
  obtain ⟨hP1, hD1⟩ := hB
  rw [ht] at hP1
  obtain ⟨hP2, hD2⟩ := va_join (wr := wr) hP hD isC isR hC hR hnr hdis hk1 hF hP1 hD1
  exact kk r u H1 locs1 hw hP2 hD2 hS1
theorem callIv  {S : Type} {post : S → Prop} {ws1 : S → va_W} (C9 : CallFix p m c cc nL s args lw_all own) (hM : MM l G y bytes maxL none rm (.ref b :: As) wc (Qv_ G post ws1)) (cw : CallB R s args own index y bytes maxL none (ws_ y bytes maxL none) rm rm.cells rm.slots n ∧ y.name = "<init>" ∧ (Cond.instanceMethod y).before args s = true) (hK : va_K G.1 CL (TYS G) s) (hZ : KS G A s s.heap) (hA : ∀ q : Nat, s.heap.size ≤ q → A q) (hP : va_P G.1 CL ws H) (hD : va_D A ws) (hS : va_S A s.heap H locs) (isC isR : List Nat) (hC : isC.map (fun i => ws[i]?) = wc.map some) (hR : isR.map (fun i => ws[i]?) = wr.map some) (hnc : va_nd isC = true) (hnr : va_nd isR = true) (hdis : ∀ i ∈ isR, i ∉ isC)  (hn : As.length = n) (hsz : ls.size = nL) (hrest : (rest.map fun v => v.category).sum ≤ 8) (hf : cells + rm.cells ≤ R.cells ∧ slots + rm.slots ≤ R.slots) (hst : st0 = As.reverse ++ .ref b :: rest) (hd : decode cc pc = .ok (.invokespecial index, 3))
    (kk : ∀ (u : S) (H1 : Heap) (locs1 : List Loc), post u → va_P G.1 CL (wr ++ ws1 u) H1 → va_D A (wr ++ ws1 u) → va_S A s.heap H1 locs1 → W p l e R s m args below meth c H1 locs1 (cells + rm.cells) (slots + rm.slots) Q (F0 m (pc + 3) ls rest)) : W p l e R s m args below meth c H locs cells slots Q (F0 m pc ls st0) := by
  have hF := free_of hA hD hS isC hC
  have hPc := cut_P hP isC hC
  have hDc := hD.sub isC hnc hC
  refine va_callv (va_runI (rest := rest) C9 (hM H.size) cw (pre_S hK hZ hS hPc hDc hF) rfl hn hsz hst (lv_room hrest) hd hf) hS (fun q _ h => hF q h) hF (fun u t H1 locs1 ht hvm hw hB hz1 hk1 hS1 => ?_)
  obtain ⟨hP1, hD1⟩ := hB
  rw [ht] at hP1
  obtain ⟨hP2, hD2⟩ := va_join (wr := wr) hP hD isC isR hC hR hnr hdis hk1 hF hP1 hD1
  exact kk u H1 locs1 hw hP2 hD2 hS1
theorem callVNi {q : vw_C} {host : String} {S : Type} {post : Int32 → S → Prop} {ws1 : S → va_W} (C9 : CallFix p m c cc nL s args lw_all own) (hM : MM l G y bytes maxL ret rm (.ref b :: As) wc (Qi_ G post ws1)) (cw : va_CN R s args own index y host bytes maxL ret (ws_ y bytes maxL ret) rm rm.cells rm.slots n) (hin : (Cond.instanceMethod y).before args s = true) (hse : (Cond.selects q.1 y y).before args s = true) (hK : va_K G.1 CL (TYS G) s) (hZ : KS G A s s.heap) (hA : ∀ q : Nat, s.heap.size ≤ q → A q) (hP : va_P G.1 CL ws H) (hD : va_D A ws) (hS : va_S A s.heap H locs) (isC isR : List Nat) (hC : isC.map (fun i => ws[i]?) = wc.map some) (hR : isR.map (fun i => ws[i]?) = wr.map some) (hnc : va_nd isC = true) (hnr : va_nd isR = true) (hdis : ∀ i ∈ isR, i ∉ isC) (q0 ci : Nat) {fs : List Value} (hc : CL[ci]? = some q) (he : wc[q0]? = some (b, .inr (ci, fs))) (hn : As.length = n) (hsz : ls.size = nL) (hrest : (rest.map fun v => v.category).sum ≤ 8) (hf : cells + rm.cells ≤ R.cells ∧ slots + rm.slots ≤ R.slots) (hst : st0 = As.reverse ++ .ref b :: rest) (hd : decode cc pc = .ok (.invokevirtual index, 3))
    (kk : ∀ (r : Int32) (u : S) (H1 : Heap) (locs1 : List Loc), post r u → va_P G.1 CL (wr ++ ws1 u) H1 → va_D A (wr ++ ws1 u) → va_S A s.heap H1 locs1 → W p l e R s m args below meth c H1 locs1 (cells + rm.cells) (slots + rm.slots) Q (F0 m (pc + 3) ls (.int r :: rest))) : W p l e R s m args below meth c H locs cells slots Q (F0 m pc ls st0) := by
  have hF := free_of hA hD hS isC hC
  have hPc := cut_P hP isC hC
  have hDc := hD.sub isC hnc hC
  refine va_calli (va_runVN (rest := rest) C9 (hM H.size) ⟨cw, hin, hse⟩ (pre_V hK hZ hS hPc hDc hF hc he) rfl hn hsz hst (lv_room hrest) hd hf) hS (fun q _ h => hF q h) hF (fun r u t H1 locs1 ht hvm hw hB hz1 hk1 hS1 => ?_)
  obtain ⟨hP1, hD1⟩ := hB
  rw [ht] at hP1
  obtain ⟨hP2, hD2⟩ := va_join (wr := wr) hP hD isC isR hC hR hnr hdis hk1 hF hP1 hD1
  exact kk r u H1 locs1 hw hP2 hD2 hS1
theorem callVNv {q : vw_C} {host : String} {S : Type} {post : S → Prop} {ws1 : S → va_W} (C9 : CallFix p m c cc nL s args lw_all own) (hM : MM l G y bytes maxL ret rm (.ref b :: As) wc (Qv_ G post ws1)) (cw : va_CN R s args own index y host bytes maxL ret (ws_ y bytes maxL ret) rm rm.cells rm.slots n) (hin : (Cond.instanceMethod y).before args s = true) (hse : (Cond.selects q.1 y y).before args s = true) (hK : va_K G.1 CL (TYS G) s) (hZ : KS G A s s.heap) (hA : ∀ q : Nat, s.heap.size ≤ q → A q) (hP : va_P G.1 CL ws H) (hD : va_D A ws) (hS : va_S A s.heap H locs) (isC isR : List Nat) (hC : isC.map (fun i => ws[i]?) = wc.map some) (hR : isR.map (fun i => ws[i]?) = wr.map some) (hnc : va_nd isC = true) (hnr : va_nd isR = true) (hdis : ∀ i ∈ isR, i ∉ isC) (q0 ci : Nat) {fs : List Value} (hc : CL[ci]? = some q) (he : wc[q0]? = some (b, .inr (ci, fs))) (hn : As.length = n) (hsz : ls.size = nL) (hrest : (rest.map fun v => v.category).sum ≤ 8) (hf : cells + rm.cells ≤ R.cells ∧ slots + rm.slots ≤ R.slots) (hst : st0 = As.reverse ++ .ref b :: rest) (hd : decode cc pc = .ok (.invokevirtual index, 3))
    (kk : ∀ (u : S) (H1 : Heap) (locs1 : List Loc), post u → va_P G.1 CL (wr ++ ws1 u) H1 → va_D A (wr ++ ws1 u) → va_S A s.heap H1 locs1 → W p l e R s m args below meth c H1 locs1 (cells + rm.cells) (slots + rm.slots) Q (F0 m (pc + 3) ls rest)) : W p l e R s m args below meth c H locs cells slots Q (F0 m pc ls st0) := by
  have hF := free_of hA hD hS isC hC
  have hPc := cut_P hP isC hC
  have hDc := hD.sub isC hnc hC
  refine va_callv (va_runVN (rest := rest) C9 (hM H.size) ⟨cw, hin, hse⟩ (pre_V hK hZ hS hPc hDc hF hc he) rfl hn hsz hst (lv_room hrest) hd hf) hS (fun q _ h => hF q h) hF (fun u t H1 locs1 ht hvm hw hB hz1 hk1 hS1 => ?_)
  obtain ⟨hP1, hD1⟩ := hB
  rw [ht] at hP1
  obtain ⟨hP2, hD2⟩ := va_join (wr := wr) hP hD isC isR hC hR hnr hdis hk1 hF hP1 hD1
  exact kk u H1 locs1 hw hP2 hD2 hS1
theorem callVNr {q : vw_C} {host : String} {S : Type} {post : Nat → S → Prop} {ws1 : Nat → S → va_W} (C9 : CallFix p m c cc nL s args lw_all own) (hM : MM l G y bytes maxL ret rm (.ref b :: As) wc (Qr_ G post ws1)) (cw : va_CN R s args own index y host bytes maxL ret (ws_ y bytes maxL ret) rm rm.cells rm.slots n) (hin : (Cond.instanceMethod y).before args s = true) (hse : (Cond.selects q.1 y y).before args s = true) (hK : va_K G.1 CL (TYS G) s) (hZ : KS G A s s.heap) (hA : ∀ q : Nat, s.heap.size ≤ q → A q) (hP : va_P G.1 CL ws H) (hD : va_D A ws) (hS : va_S A s.heap H locs) (isC isR : List Nat) (hC : isC.map (fun i => ws[i]?) = wc.map some) (hR : isR.map (fun i => ws[i]?) = wr.map some) (hnc : va_nd isC = true) (hnr : va_nd isR = true) (hdis : ∀ i ∈ isR, i ∉ isC) (q0 ci : Nat) {fs : List Value} (hc : CL[ci]? = some q) (he : wc[q0]? = some (b, .inr (ci, fs))) (hn : As.length = n) (hsz : ls.size = nL) (hrest : (rest.map fun v => v.category).sum ≤ 8) (hf : cells + rm.cells ≤ R.cells ∧ slots + rm.slots ≤ R.slots) (hst : st0 = As.reverse ++ .ref b :: rest) (hd : decode cc pc = .ok (.invokevirtual index, 3))
    (kk : ∀ (r : Nat) (u : S) (H1 : Heap) (locs1 : List Loc), post r u → va_P G.1 CL (wr ++ ws1 r u) H1 → va_D A (wr ++ ws1 r u) → va_S A s.heap H1 locs1 → W p l e R s m args below meth c H1 locs1 (cells + rm.cells) (slots + rm.slots) Q (F0 m (pc + 3) ls (.ref r :: rest))) : W p l e R s m args below meth c H locs cells slots Q (F0 m pc ls st0) := by
  have hF := free_of hA hD hS isC hC
  have hPc := cut_P hP isC hC
  have hDc := hD.sub isC hnc hC
  refine va_callr (va_runVN (rest := rest) C9 (hM H.size) ⟨cw, hin, hse⟩ (pre_V hK hZ hS hPc hDc hF hc he) rfl hn hsz hst (lv_room hrest) hd hf) hS (fun q _ h => hF q h) hF (fun u r t H1 locs1 ht hvm hw hB hz1 hk1 hS1 => ?_)
  obtain ⟨hw9, hB⟩ := hB
  obtain ⟨hP1, hD1⟩ := hB
  rw [ht] at hP1
  obtain ⟨hP2, hD2⟩ := va_join (wr := wr) hP hD isC isR hC hR hnr hdis hk1 hF hP1 hD1
  exact kk r u H1 locs1 hw9 hP2 hD2 hS1
theorem callVNq {q : vw_C} {host : String} {S : Type} {post : Option Nat → S → Prop} {ws1 : S → va_W} (C9 : CallFix p m c cc nL s args lw_all own) (hM : MM l G y bytes maxL ret rm (.ref b :: As) wc (Qq_ G post ws1)) (cw : va_CN R s args own index y host bytes maxL ret (ws_ y bytes maxL ret) rm rm.cells rm.slots n) (hin : (Cond.instanceMethod y).before args s = true) (hse : (Cond.selects q.1 y y).before args s = true) (hK : va_K G.1 CL (TYS G) s) (hZ : KS G A s s.heap) (hA : ∀ q : Nat, s.heap.size ≤ q → A q) (hP : va_P G.1 CL ws H) (hD : va_D A ws) (hS : va_S A s.heap H locs) (isC isR : List Nat) (hC : isC.map (fun i => ws[i]?) = wc.map some) (hR : isR.map (fun i => ws[i]?) = wr.map some) (hnc : va_nd isC = true) (hnr : va_nd isR = true) (hdis : ∀ i ∈ isR, i ∉ isC) (q0 ci : Nat) {fs : List Value} (hc : CL[ci]? = some q) (he : wc[q0]? = some (b, .inr (ci, fs))) (hn : As.length = n) (hsz : ls.size = nL) (hrest : (rest.map fun v => v.category).sum ≤ 8) (hf : cells + rm.cells ≤ R.cells ∧ slots + rm.slots ≤ R.slots) (hst : st0 = As.reverse ++ .ref b :: rest) (hd : decode cc pc = .ok (.invokevirtual index, 3))
    (kk : ∀ (r : Option Nat) (u : S) (H1 : Heap) (locs1 : List Loc), post r u → va_P G.1 CL (wr ++ ws1 u) H1 → va_D A (wr ++ ws1 u) → va_S A s.heap H1 locs1 → W p l e R s m args below meth c H1 locs1 (cells + rm.cells) (slots + rm.slots) Q (F0 m (pc + 3) ls (va_rf r :: rest))) : W p l e R s m args below meth c H locs cells slots Q (F0 m pc ls st0) := by
  have hF := free_of hA hD hS isC hC
  have hPc := cut_P hP isC hC
  have hDc := hD.sub isC hnc hC
  refine va_callq (va_runVN (rest := rest) C9 (hM H.size) ⟨cw, hin, hse⟩ (pre_V hK hZ hS hPc hDc hF hc he) rfl hn hsz hst (lv_room hrest) hd hf) hS (fun q _ h => hF q h) hF (fun r u t H1 locs1 ht hvm hw hB hz1 hk1 hS1 => ?_)
  obtain ⟨hP1, hD1⟩ := hB
  rw [ht] at hP1
  obtain ⟨hP2, hD2⟩ := va_join (wr := wr) hP hD isC isR hC hR hnr hdis hk1 hF hP1 hD1
  exact kk r u H1 locs1 hw hP2 hD2 hS1
theorem callSNi {host : String} {S : Type} {post : Int32 → S → Prop} {ws1 : S → va_W} (C9 : CallFix p m c cc nL s args lw_all own) (hM : MM l G y bytes maxL ret rm As wc (Qi_ G post ws1)) (cw : va_CN R s args own index y host bytes maxL ret (ws_ y bytes maxL ret) rm rm.cells rm.slots n) (hst9 : (Cond.static y).before args s = true) (hK : va_K G.1 CL (TYS G) s) (hZ : KS G A s s.heap) (hA : ∀ q : Nat, s.heap.size ≤ q → A q) (hP : va_P G.1 CL ws H) (hD : va_D A ws) (hS : va_S A s.heap H locs) (isC isR : List Nat) (hC : isC.map (fun i => ws[i]?) = wc.map some) (hR : isR.map (fun i => ws[i]?) = wr.map some) (hnc : va_nd isC = true) (hnr : va_nd isR = true) (hdis : ∀ i ∈ isR, i ∉ isC)  (hn : As.length = n) (hsz : ls.size = nL) (hrest : (rest.map fun v => v.category).sum ≤ 8) (hf : cells + rm.cells ≤ R.cells ∧ slots + rm.slots ≤ R.slots) (hst : st0 = As.reverse ++ rest) (hd : decode cc pc = .ok (.invokestatic index, 3))
    (kk : ∀ (r : Int32) (u : S) (H1 : Heap) (locs1 : List Loc), post r u → va_P G.1 CL (wr ++ ws1 u) H1 → va_D A (wr ++ ws1 u) → va_S A s.heap H1 locs1 → W p l e R s m args below meth c H1 locs1 (cells + rm.cells) (slots + rm.slots) Q (F0 m (pc + 3) ls (.int r :: rest))) : W p l e R s m args below meth c H locs cells slots Q (F0 m pc ls st0) := by
  have hF := free_of hA hD hS isC hC
  have hPc := cut_P hP isC hC
  have hDc := hD.sub isC hnc hC
  refine va_calli (va_runSN (rest := rest) C9 (hM H.size) ⟨cw, hst9, trivial⟩ (pre_S hK hZ hS hPc hDc hF) rfl hn hsz hst (lv_room hrest) hd hf) hS (fun q _ h => hF q h) hF (fun r u t H1 locs1 ht hvm hw hB hz1 hk1 hS1 => ?_)
  obtain ⟨hP1, hD1⟩ := hB
  rw [ht] at hP1
  obtain ⟨hP2, hD2⟩ := va_join (wr := wr) hP hD isC isR hC hR hnr hdis hk1 hF hP1 hD1
  exact kk r u H1 locs1 hw hP2 hD2 hS1
theorem callSNv {host : String} {S : Type} {post : S → Prop} {ws1 : S → va_W} (C9 : CallFix p m c cc nL s args lw_all own) (hM : MM l G y bytes maxL ret rm As wc (Qv_ G post ws1)) (cw : va_CN R s args own index y host bytes maxL ret (ws_ y bytes maxL ret) rm rm.cells rm.slots n) (hst9 : (Cond.static y).before args s = true) (hK : va_K G.1 CL (TYS G) s) (hZ : KS G A s s.heap) (hA : ∀ q : Nat, s.heap.size ≤ q → A q) (hP : va_P G.1 CL ws H) (hD : va_D A ws) (hS : va_S A s.heap H locs) (isC isR : List Nat) (hC : isC.map (fun i => ws[i]?) = wc.map some) (hR : isR.map (fun i => ws[i]?) = wr.map some) (hnc : va_nd isC = true) (hnr : va_nd isR = true) (hdis : ∀ i ∈ isR, i ∉ isC)  (hn : As.length = n) (hsz : ls.size = nL) (hrest : (rest.map fun v => v.category).sum ≤ 8) (hf : cells + rm.cells ≤ R.cells ∧ slots + rm.slots ≤ R.slots) (hst : st0 = As.reverse ++ rest) (hd : decode cc pc = .ok (.invokestatic index, 3))
    (kk : ∀ (u : S) (H1 : Heap) (locs1 : List Loc), post u → va_P G.1 CL (wr ++ ws1 u) H1 → va_D A (wr ++ ws1 u) → va_S A s.heap H1 locs1 → W p l e R s m args below meth c H1 locs1 (cells + rm.cells) (slots + rm.slots) Q (F0 m (pc + 3) ls rest)) : W p l e R s m args below meth c H locs cells slots Q (F0 m pc ls st0) := by
  have hF := free_of hA hD hS isC hC
  have hPc := cut_P hP isC hC
  have hDc := hD.sub isC hnc hC
  refine va_callv (va_runSN (rest := rest) C9 (hM H.size) ⟨cw, hst9, trivial⟩ (pre_S hK hZ hS hPc hDc hF) rfl hn hsz hst (lv_room hrest) hd hf) hS (fun q _ h => hF q h) hF (fun u t H1 locs1 ht hvm hw hB hz1 hk1 hS1 => ?_)
  obtain ⟨hP1, hD1⟩ := hB
  rw [ht] at hP1
  obtain ⟨hP2, hD2⟩ := va_join (wr := wr) hP hD isC isR hC hR hnr hdis hk1 hF hP1 hD1
  exact kk u H1 locs1 hw hP2 hD2 hS1
theorem callSNr {host : String} {S : Type} {post : Nat → S → Prop} {ws1 : Nat → S → va_W} (C9 : CallFix p m c cc nL s args lw_all own) (hM : MM l G y bytes maxL ret rm As wc (Qr_ G post ws1)) (cw : va_CN R s args own index y host bytes maxL ret (ws_ y bytes maxL ret) rm rm.cells rm.slots n) (hst9 : (Cond.static y).before args s = true) (hK : va_K G.1 CL (TYS G) s) (hZ : KS G A s s.heap) (hA : ∀ q : Nat, s.heap.size ≤ q → A q) (hP : va_P G.1 CL ws H) (hD : va_D A ws) (hS : va_S A s.heap H locs) (isC isR : List Nat) (hC : isC.map (fun i => ws[i]?) = wc.map some) (hR : isR.map (fun i => ws[i]?) = wr.map some) (hnc : va_nd isC = true) (hnr : va_nd isR = true) (hdis : ∀ i ∈ isR, i ∉ isC)  (hn : As.length = n) (hsz : ls.size = nL) (hrest : (rest.map fun v => v.category).sum ≤ 8) (hf : cells + rm.cells ≤ R.cells ∧ slots + rm.slots ≤ R.slots) (hst : st0 = As.reverse ++ rest) (hd : decode cc pc = .ok (.invokestatic index, 3))
    (kk : ∀ (r : Nat) (u : S) (H1 : Heap) (locs1 : List Loc), post r u → va_P G.1 CL (wr ++ ws1 r u) H1 → va_D A (wr ++ ws1 r u) → va_S A s.heap H1 locs1 → W p l e R s m args below meth c H1 locs1 (cells + rm.cells) (slots + rm.slots) Q (F0 m (pc + 3) ls (.ref r :: rest))) : W p l e R s m args below meth c H locs cells slots Q (F0 m pc ls st0) := by
  have hF := free_of hA hD hS isC hC
  have hPc := cut_P hP isC hC
  have hDc := hD.sub isC hnc hC
  refine va_callr (va_runSN (rest := rest) C9 (hM H.size) ⟨cw, hst9, trivial⟩ (pre_S hK hZ hS hPc hDc hF) rfl hn hsz hst (lv_room hrest) hd hf) hS (fun q _ h => hF q h) hF (fun u r t H1 locs1 ht hvm hw hB hz1 hk1 hS1 => ?_)
  obtain ⟨hw9, hB⟩ := hB
  obtain ⟨hP1, hD1⟩ := hB
  rw [ht] at hP1
  obtain ⟨hP2, hD2⟩ := va_join (wr := wr) hP hD isC isR hC hR hnr hdis hk1 hF hP1 hD1
  exact kk r u H1 locs1 hw9 hP2 hD2 hS1
theorem callSNq {host : String} {S : Type} {post : Option Nat → S → Prop} {ws1 : S → va_W} (C9 : CallFix p m c cc nL s args lw_all own) (hM : MM l G y bytes maxL ret rm As wc (Qq_ G post ws1)) (cw : va_CN R s args own index y host bytes maxL ret (ws_ y bytes maxL ret) rm rm.cells rm.slots n) (hst9 : (Cond.static y).before args s = true) (hK : va_K G.1 CL (TYS G) s) (hZ : KS G A s s.heap) (hA : ∀ q : Nat, s.heap.size ≤ q → A q) (hP : va_P G.1 CL ws H) (hD : va_D A ws) (hS : va_S A s.heap H locs) (isC isR : List Nat) (hC : isC.map (fun i => ws[i]?) = wc.map some) (hR : isR.map (fun i => ws[i]?) = wr.map some) (hnc : va_nd isC = true) (hnr : va_nd isR = true) (hdis : ∀ i ∈ isR, i ∉ isC)  (hn : As.length = n) (hsz : ls.size = nL) (hrest : (rest.map fun v => v.category).sum ≤ 8) (hf : cells + rm.cells ≤ R.cells ∧ slots + rm.slots ≤ R.slots) (hst : st0 = As.reverse ++ rest) (hd : decode cc pc = .ok (.invokestatic index, 3))
    (kk : ∀ (r : Option Nat) (u : S) (H1 : Heap) (locs1 : List Loc), post r u → va_P G.1 CL (wr ++ ws1 u) H1 → va_D A (wr ++ ws1 u) → va_S A s.heap H1 locs1 → W p l e R s m args below meth c H1 locs1 (cells + rm.cells) (slots + rm.slots) Q (F0 m (pc + 3) ls (va_rf r :: rest))) : W p l e R s m args below meth c H locs cells slots Q (F0 m pc ls st0) := by
  have hF := free_of hA hD hS isC hC
  have hPc := cut_P hP isC hC
  have hDc := hD.sub isC hnc hC
  refine va_callq (va_runSN (rest := rest) C9 (hM H.size) ⟨cw, hst9, trivial⟩ (pre_S hK hZ hS hPc hDc hF) rfl hn hsz hst (lv_room hrest) hd hf) hS (fun q _ h => hF q h) hF (fun r u t H1 locs1 ht hvm hw hB hz1 hk1 hS1 => ?_)
  obtain ⟨hP1, hD1⟩ := hB
  rw [ht] at hP1
  obtain ⟨hP2, hD2⟩ := va_join (wr := wr) hP hD isC isR hC hR hnr hdis hk1 hF hP1 hD1
  exact kk r u H1 locs1 hw hP2 hD2 hS1
theorem callINv {host : String} {S : Type} {post : S → Prop} {ws1 : S → va_W} (C9 : CallFix p m c cc nL s args lw_all own) (hM : MM l G y bytes maxL none rm (.ref b :: As) wc (Qv_ G post ws1)) (cw : va_CN R s args own index y host bytes maxL none (ws_ y bytes maxL none) rm rm.cells rm.slots n) (hy1 : y.name = "<init>") (hin : (Cond.instanceMethod y).before args s = true) (hK : va_K G.1 CL (TYS G) s) (hZ : KS G A s s.heap) (hA : ∀ q : Nat, s.heap.size ≤ q → A q) (hP : va_P G.1 CL ws H) (hD : va_D A ws) (hS : va_S A s.heap H locs) (isC isR : List Nat) (hC : isC.map (fun i => ws[i]?) = wc.map some) (hR : isR.map (fun i => ws[i]?) = wr.map some) (hnc : va_nd isC = true) (hnr : va_nd isR = true) (hdis : ∀ i ∈ isR, i ∉ isC)  (hn : As.length = n) (hsz : ls.size = nL) (hrest : (rest.map fun v => v.category).sum ≤ 8) (hf : cells + rm.cells ≤ R.cells ∧ slots + rm.slots ≤ R.slots) (hst : st0 = As.reverse ++ .ref b :: rest) (hd : decode cc pc = .ok (.invokespecial index, 3))
    (kk : ∀ (u : S) (H1 : Heap) (locs1 : List Loc), post u → va_P G.1 CL (wr ++ ws1 u) H1 → va_D A (wr ++ ws1 u) → va_S A s.heap H1 locs1 → W p l e R s m args below meth c H1 locs1 (cells + rm.cells) (slots + rm.slots) Q (F0 m (pc + 3) ls rest)) : W p l e R s m args below meth c H locs cells slots Q (F0 m pc ls st0) := by
  have hF := free_of hA hD hS isC hC
  have hPc := cut_P hP isC hC
  have hDc := hD.sub isC hnc hC
  refine va_callv (va_runIN (rest := rest) C9 (hM H.size) ⟨cw, hy1, hin⟩ (pre_S hK hZ hS hPc hDc hF) rfl hn hsz hst (lv_room hrest) hd hf) hS (fun q _ h => hF q h) hF (fun u t H1 locs1 ht hvm hw hB hz1 hk1 hS1 => ?_)
  obtain ⟨hP1, hD1⟩ := hB
  rw [ht] at hP1
  obtain ⟨hP2, hD2⟩ := va_join (wr := wr) hP hD isC isR hC hR hnr hdis hk1 hF hP1 hD1
  exact kk u H1 locs1 hw hP2 hD2 hS1
end CALL
section NUM
variable {p : Program} {l : Launch} {e : Env} {R : Room} {s : State} {m : MethodId} {args : Array Value} {below : List Frame} {meth : Method} {c : Code} {H : Heap} {locs : List Loc} {cells slots : Nat} {Q : State → Prop} {cc : ByteArray} {pc : Nat} {ls : Array Slot} {rest : List Value}
theorem n_iadd (hx : p.tables.exec = Jvm.exec) (hb : c.code = cc) {a b : Nat} (hd : decode cc pc = .ok (.iadd, 1)) (k : W p l e R s m args below meth c H locs cells slots Q (F0 m (pc + 1) ls (.int (nI (a + b)) :: rest))) : W p l e R s m args below meth c H locs cells slots Q (F0 m pc ls (.int (nI b) :: .int (nI a) :: rest)) := lv_iadd hx hb hd (by rw [nI_add]; exact k)
theorem n_isub (hx : p.tables.exec = Jvm.exec) (hb : c.code = cc) {a b : Nat} (h : b ≤ a) (hd : decode cc pc = .ok (.isub, 1)) (k : W p l e R s m args below meth c H locs cells slots Q (F0 m (pc + 1) ls (.int (nI (a - b)) :: rest))) : W p l e R s m args below meth c H locs cells slots Q (F0 m pc ls (.int (nI b) :: .int (nI a) :: rest)) := lv_isub hx hb hd (by rw [pk_sub h]; exact k)
theorem n_imul (hx : p.tables.exec = Jvm.exec) (hb : c.code = cc) {a b : Nat} (hd : decode cc pc = .ok (.imul, 1)) (k : W p l e R s m args below meth c H locs cells slots Q (F0 m (pc + 1) ls (.int (nI (a * b)) :: rest))) : W p l e R s m args below meth c H locs cells slots Q (F0 m pc ls (.int (nI b) :: .int (nI a) :: rest)) := lv_imul hx hb hd (by rw [pk_mul]; exact k)
theorem n_idiv (hx : p.tables.exec = Jvm.exec) (hb : c.code = cc) {a b : Nat} (h1 : a < 2147483648) (h2 : 0 < b) (h3 : b < 2147483648) (hd : decode cc pc = .ok (.idiv, 1)) (k : W p l e R s m args below meth c H locs cells slots Q (F0 m (pc + 1) ls (.int (nI (a / b)) :: rest))) : W p l e R s m args below meth c H locs cells slots Q (F0 m pc ls (.int (nI b) :: .int (nI a) :: rest)) := lv_idiv hx hb hd (nI_ne0 h2 h3) (by rw [pk_div h1 h2 h3]; exact k)
theorem n_irem (hx : p.tables.exec = Jvm.exec) (hb : c.code = cc) {a b : Nat} (h1 : a < 2147483648) (h2 : 0 < b) (h3 : b < 2147483648) (hd : decode cc pc = .ok (.irem, 1)) (k : W p l e R s m args below meth c H locs cells slots Q (F0 m (pc + 1) ls (.int (nI (a % b)) :: rest))) : W p l e R s m args below meth c H locs cells slots Q (F0 m pc ls (.int (nI b) :: .int (nI a) :: rest)) := lv_irem hx hb hd (nI_ne0 h2 h3) (by rw [pk_rem h1 h2 h3]; exact k)
theorem n_i2c (hx : p.tables.exec = Jvm.exec) (hb : c.code = cc) {a : Nat} (h : a < 65536) (hd : decode cc pc = .ok (.i2c, 1)) (k : W p l e R s m args below meth c H locs cells slots Q (F0 m (pc + 1) ls (.int (nI a) :: rest))) : W p l e R s m args below meth c H locs cells slots Q (F0 m pc ls (.int (nI a) :: rest)) := lv_i2c hx hb hd (by rw [pk_char, pk_tn (by omega), Nat.mod_eq_of_lt h]) k
theorem eq_i {x y : Int32} (h : x = y) (k : W p l e R s m args below meth c H locs cells slots Q (F0 m pc ls (.int y :: rest))) : W p l e R s m args below meth c H locs cells slots Q (F0 m pc ls (.int x :: rest)) := by rw [h]; exact k
theorem eq_r {x y : Nat} (h : x = y) (k : W p l e R s m args below meth c H locs cells slots Q (F0 m pc ls (.ref y :: rest))) : W p l e R s m args below meth c H locs cells slots Q (F0 m pc ls (.ref x :: rest)) := by rw [h]; exact k
theorem eq_v {x y : Value} (h : x = y) (k : W p l e R s m args below meth c H locs cells slots Q (F0 m pc ls (y :: rest))) : W p l e R s m args below meth c H locs cells slots Q (F0 m pc ls (x :: rest)) := by rw [h]; exact k
theorem n_cmp_eq (hx : p.tables.exec = Jvm.exec) (hb : c.code = cc) {a b : Nat} {off : Int} {tgt : Nat} (hd : decode cc pc = .ok (.if_icmp .eq off, 3)) (ht : (pc : Int) + off = (tgt : Int)) (h1 : a < 2147483648) (h2 : b < 2147483648) (kt : a = b → W p l e R s m args below meth c H locs cells slots Q (F0 m tgt ls rest)) (kf : a ≠ b → W p l e R s m args below meth c H locs cells slots Q (F0 m (pc + 3) ls rest)) : W p l e R s m args below meth c H locs cells slots Q (F0 m pc ls (.int (nI b) :: .int (nI a) :: rest)) := lv_icmp_eq hx hb hd ht (fun q => kt ((nI_eq h1 h2).mp q)) (fun q => kf (fun z => q ((nI_eq h1 h2).mpr z)))
theorem n_cmp_ne (hx : p.tables.exec = Jvm.exec) (hb : c.code = cc) {a b : Nat} {off : Int} {tgt : Nat} (hd : decode cc pc = .ok (.if_icmp .ne off, 3)) (ht : (pc : Int) + off = (tgt : Int)) (h1 : a < 2147483648) (h2 : b < 2147483648) (kt : a ≠ b → W p l e R s m args below meth c H locs cells slots Q (F0 m tgt ls rest)) (kf : a = b → W p l e R s m args below meth c H locs cells slots Q (F0 m (pc + 3) ls rest)) : W p l e R s m args below meth c H locs cells slots Q (F0 m pc ls (.int (nI b) :: .int (nI a) :: rest)) := lv_icmp_ne hx hb hd ht (fun q => kt (fun z => q ((nI_eq h1 h2).mpr z))) (fun q => kf ((nI_eq h1 h2).mp q))
theorem n_cmp_lt (hx : p.tables.exec = Jvm.exec) (hb : c.code = cc) {a b : Nat} {off : Int} {tgt : Nat} (hd : decode cc pc = .ok (.if_icmp .lt off, 3)) (ht : (pc : Int) + off = (tgt : Int)) (h1 : a < 2147483648) (h2 : b < 2147483648) (kt : a < b → W p l e R s m args below meth c H locs cells slots Q (F0 m tgt ls rest)) (kf : b ≤ a → W p l e R s m args below meth c H locs cells slots Q (F0 m (pc + 3) ls rest)) : W p l e R s m args below meth c H locs cells slots Q (F0 m pc ls (.int (nI b) :: .int (nI a) :: rest)) := lv_icmp_lt hx hb hd ht (fun q => kt ((nI_ltI h1 h2).mp q)) (fun q => kf (Nat.le_of_not_lt (fun z => q ((nI_ltI h1 h2).mpr z))))
theorem n_cmp_ge (hx : p.tables.exec = Jvm.exec) (hb : c.code = cc) {a b : Nat} {off : Int} {tgt : Nat} (hd : decode cc pc = .ok (.if_icmp .ge off, 3)) (ht : (pc : Int) + off = (tgt : Int)) (h1 : a < 2147483648) (h2 : b < 2147483648) (kt : b ≤ a → W p l e R s m args below meth c H locs cells slots Q (F0 m tgt ls rest)) (kf : a < b → W p l e R s m args below meth c H locs cells slots Q (F0 m (pc + 3) ls rest)) : W p l e R s m args below meth c H locs cells slots Q (F0 m pc ls (.int (nI b) :: .int (nI a) :: rest)) := lv_icmp_ge hx hb hd ht (fun q => kt ((nI_leI h2 h1).mp q)) (fun q => kf (Nat.lt_of_not_le (fun z => q ((nI_leI h2 h1).mpr z))))
theorem n_cmp_gt (hx : p.tables.exec = Jvm.exec) (hb : c.code = cc) {a b : Nat} {off : Int} {tgt : Nat} (hd : decode cc pc = .ok (.if_icmp .gt off, 3)) (ht : (pc : Int) + off = (tgt : Int)) (h1 : a < 2147483648) (h2 : b < 2147483648) (kt : b < a → W p l e R s m args below meth c H locs cells slots Q (F0 m tgt ls rest)) (kf : a ≤ b → W p l e R s m args below meth c H locs cells slots Q (F0 m (pc + 3) ls rest)) : W p l e R s m args below meth c H locs cells slots Q (F0 m pc ls (.int (nI b) :: .int (nI a) :: rest)) := lv_icmp_gt hx hb hd ht (fun q => kt ((nI_ltI h2 h1).mp q)) (fun q => kf (Nat.le_of_not_lt (fun z => q ((nI_ltI h2 h1).mpr z))))
theorem n_cmp_le (hx : p.tables.exec = Jvm.exec) (hb : c.code = cc) {a b : Nat} {off : Int} {tgt : Nat} (hd : decode cc pc = .ok (.if_icmp .le off, 3)) (ht : (pc : Int) + off = (tgt : Int)) (h1 : a < 2147483648) (h2 : b < 2147483648) (kt : a ≤ b → W p l e R s m args below meth c H locs cells slots Q (F0 m tgt ls rest)) (kf : b < a → W p l e R s m args below meth c H locs cells slots Q (F0 m (pc + 3) ls rest)) : W p l e R s m args below meth c H locs cells slots Q (F0 m pc ls (.int (nI b) :: .int (nI a) :: rest)) := lv_icmp_le hx hb hd ht (fun q => kt ((nI_leI h1 h2).mp q)) (fun q => kf (Nat.lt_of_not_le (fun z => q ((nI_leI h1 h2).mpr z))))
theorem n_if_eq (hx : p.tables.exec = Jvm.exec) (hb : c.code = cc) {a : Nat} {off : Int} {tgt : Nat} (hd : decode cc pc = .ok (.ifCond .eq off, 3)) (ht : (pc : Int) + off = (tgt : Int)) (h1 : a < 2147483648) (kt : a = 0 → W p l e R s m args below meth c H locs cells slots Q (F0 m tgt ls rest)) (kf : 0 < a → W p l e R s m args below meth c H locs cells slots Q (F0 m (pc + 3) ls rest)) : W p l e R s m args below meth c H locs cells slots Q (F0 m pc ls (.int (nI a) :: rest)) := lv_if_eq hx hb hd ht (fun q => kt ((nI_eq h1 (by decide)).mp (q.trans nI_0.symm))) (fun q => kf (Nat.pos_of_ne_zero (fun z => q (by rw [z]; rfl))))
theorem n_if_ne (hx : p.tables.exec = Jvm.exec) (hb : c.code = cc) {a : Nat} {off : Int} {tgt : Nat} (hd : decode cc pc = .ok (.ifCond .ne off, 3)) (ht : (pc : Int) + off = (tgt : Int)) (h1 : a < 2147483648) (kt : 0 < a → W p l e R s m args below meth c H locs cells slots Q (F0 m tgt ls rest)) (kf : a = 0 → W p l e R s m args below meth c H locs cells slots Q (F0 m (pc + 3) ls rest)) : W p l e R s m args below meth c H locs cells slots Q (F0 m pc ls (.int (nI a) :: rest)) := lv_if_ne hx hb hd ht (fun q => kt (Nat.pos_of_ne_zero (fun z => q (by rw [z]; rfl)))) (fun q => kf ((nI_eq h1 (by decide)).mp (q.trans nI_0.symm)))
theorem n_if_gt (hx : p.tables.exec = Jvm.exec) (hb : c.code = cc) {a : Nat} {off : Int} {tgt : Nat} (hd : decode cc pc = .ok (.ifCond .gt off, 3)) (ht : (pc : Int) + off = (tgt : Int)) (h1 : a < 2147483648) (kt : 0 < a → W p l e R s m args below meth c H locs cells slots Q (F0 m tgt ls rest)) (kf : a = 0 → W p l e R s m args below meth c H locs cells slots Q (F0 m (pc + 3) ls rest)) : W p l e R s m args below meth c H locs cells slots Q (F0 m pc ls (.int (nI a) :: rest)) := lv_if_gt hx hb hd ht (fun q => kt ((nI_ltI (by decide) h1).mp (by rw [nI_0]; exact q))) (fun q => kf (Nat.eq_zero_of_not_pos (fun z => q (show (0 : Int32) < nI a by have := (nI_ltI (a := 0) (b := a) (by decide) h1).mpr z; rwa [nI_0] at this))))
theorem n_if_le (hx : p.tables.exec = Jvm.exec) (hb : c.code = cc) {a : Nat} {off : Int} {tgt : Nat} (hd : decode cc pc = .ok (.ifCond .le off, 3)) (ht : (pc : Int) + off = (tgt : Int)) (h1 : a < 2147483648) (kt : a = 0 → W p l e R s m args below meth c H locs cells slots Q (F0 m tgt ls rest)) (kf : 0 < a → W p l e R s m args below meth c H locs cells slots Q (F0 m (pc + 3) ls rest)) : W p l e R s m args below meth c H locs cells slots Q (F0 m pc ls (.int (nI a) :: rest)) := lv_if_le hx hb hd ht (fun q => kt (by have := (nI_leI (a := a) (b := 0) h1 (by decide)).mp (by rw [nI_0]; exact q); omega)) (fun q => kf (Nat.lt_of_not_le (fun z => q (show nI a ≤ (0 : Int32) by have := (nI_leI (a := a) (b := 0) h1 (by decide)).mpr z; rwa [nI_0] at this))))
theorem n_if_lt (hx : p.tables.exec = Jvm.exec) (hb : c.code = cc) {a : Nat} {off : Int} (hd : decode cc pc = .ok (.ifCond .lt off, 3)) {tgt : Nat} (ht : (pc : Int) + off = (tgt : Int)) (h1 : a < 2147483648) (kf : W p l e R s m args below meth c H locs cells slots Q (F0 m (pc + 3) ls rest)) : W p l e R s m args below meth c H locs cells slots Q (F0 m pc ls (.int (nI a) :: rest)) := lv_if_lt hx hb hd ht (fun q => absurd q (nI_pos h1)) (fun _ => kf)
theorem n_if_ge (hx : p.tables.exec = Jvm.exec) (hb : c.code = cc) {a : Nat} {off : Int} (hd : decode cc pc = .ok (.ifCond .ge off, 3)) {tgt : Nat} (ht : (pc : Int) + off = (tgt : Int)) (h1 : a < 2147483648) (kt : W p l e R s m args below meth c H locs cells slots Q (F0 m tgt ls rest)) : W p l e R s m args below meth c H locs cells slots Q (F0 m pc ls (.int (nI a) :: rest)) := lv_if_ge hx hb hd ht (fun _ => kt) (fun q => absurd (nI_pos' h1) q)
theorem b_if_eq (hx : p.tables.exec = Jvm.exec) (hb : c.code = cc) {a : Bool} {off : Int} {tgt : Nat} (hd : decode cc pc = .ok (.ifCond .eq off, 3)) (ht : (pc : Int) + off = (tgt : Int)) (kt : a = false → W p l e R s m args below meth c H locs cells slots Q (F0 m tgt ls rest)) (kf : a = true → W p l e R s m args below meth c H locs cells slots Q (F0 m (pc + 3) ls rest)) : W p l e R s m args below meth c H locs cells slots Q (F0 m pc ls (.int (bI a) :: rest)) := lv_if_eq hx hb hd ht (fun q => kt (bI_eq0.mp q)) (fun q => kf (by cases a with | false => exact absurd rfl q | true => rfl))
theorem b_if_ne (hx : p.tables.exec = Jvm.exec) (hb : c.code = cc) {a : Bool} {off : Int} {tgt : Nat} (hd : decode cc pc = .ok (.ifCond .ne off, 3)) (ht : (pc : Int) + off = (tgt : Int)) (kt : a = true → W p l e R s m args below meth c H locs cells slots Q (F0 m tgt ls rest)) (kf : a = false → W p l e R s m args below meth c H locs cells slots Q (F0 m (pc + 3) ls rest)) : W p l e R s m args below meth c H locs cells slots Q (F0 m pc ls (.int (bI a) :: rest)) := lv_if_ne hx hb hd ht (fun q => kt (by cases a with | false => exact absurd rfl q | true => rfl)) (fun q => kf (bI_eq0.mp q))
theorem b_iand (hx : p.tables.exec = Jvm.exec) (hb : c.code = cc) {a b : Bool} (hd : decode cc pc = .ok (.iand, 1)) (k : W p l e R s m args below meth c H locs cells slots Q (F0 m (pc + 1) ls (.int (bI (a && b)) :: rest))) : W p l e R s m args below meth c H locs cells slots Q (F0 m pc ls (.int (bI b) :: .int (bI a) :: rest)) := lv_iand hx hb hd (by rw [show bI a &&& bI b = bI (a && b) from by cases a <;> cases b <;> decide]; exact k)
theorem b_ior (hx : p.tables.exec = Jvm.exec) (hb : c.code = cc) {a b : Bool} (hd : decode cc pc = .ok (.ior, 1)) (k : W p l e R s m args below meth c H locs cells slots Q (F0 m (pc + 1) ls (.int (bI (a || b)) :: rest))) : W p l e R s m args below meth c H locs cells slots Q (F0 m pc ls (.int (bI b) :: .int (bI a) :: rest)) := lv_ior hx hb hd (by rw [show bI a ||| bI b = bI (a || b) from by cases a <;> cases b <;> decide]; exact k)
theorem b_ixor (hx : p.tables.exec = Jvm.exec) (hb : c.code = cc) {a b : Bool} (hd : decode cc pc = .ok (.ixor, 1)) (k : W p l e R s m args below meth c H locs cells slots Q (F0 m (pc + 1) ls (.int (bI (a ^^ b)) :: rest))) : W p l e R s m args below meth c H locs cells slots Q (F0 m pc ls (.int (bI b) :: .int (bI a) :: rest)) := lv_ixor hx hb hd (by rw [show bI a ^^^ bI b = bI (a ^^ b) from by cases a <;> cases b <;> decide]; exact k)
end NUM
section ARR
variable {p : Program} {l : Launch} {e : Env} {R : Room} {s : State} {m : MethodId} {args : Array Value} {below : List Frame} {meth : Method} {c : Code} {H : Heap} {locs : List Loc} {cells slots : Nat} {Q : State → Prop} {cc : ByteArray} {pc : Nat} {ls : Array Slot} {rest : List Value} {D : va_G} {cl : List vw_C} {tys : List (ClassId × FieldType)} {ws : va_W} {A : Nat → Prop} {H0 : Heap} {a : Nat} {cA : ClassId} {n i : Nat}
theorem n_cald (hx : p.tables.exec = Jvm.exec) (hb : c.code = cc) (hK : va_K D cl tys s) (hP : va_P D cl ws H) (q0 t0 : Nat) {L : Nat → Nat} (ha : ws[q0]? = some (a, .inl (cA, n, .inl (nA L)))) (ht : tys[t0]? = some (cA, .char)) (hi : i < n) (hn : n < 2147483648) (hd : decode cc pc = .ok (.caload, 1)) (kk : W p l e R s m args below meth c H locs cells slots Q (F0 m (pc + 1) ls (.int (nI (L i)) :: rest))) : W p l e R s m args below meth c H locs cells slots Q (F0 m pc ls (.int (nI i) :: .ref a :: rest)) := va_cald hx hb hK hP q0 t0 ha ht (vp_in_nI hi hn) hd (by rw [nI_clamp (Nat.lt_trans hi hn)]; exact kk)
theorem n_iald (hx : p.tables.exec = Jvm.exec) (hb : c.code = cc) (hK : va_K D cl tys s) (hP : va_P D cl ws H) (q0 t0 : Nat) {L : Nat → Nat} (ha : ws[q0]? = some (a, .inl (cA, n, .inl (nA L)))) (ht : tys[t0]? = some (cA, .int)) (hi : i < n) (hn : n < 2147483648) (hd : decode cc pc = .ok (.iaload, 1)) (kk : W p l e R s m args below meth c H locs cells slots Q (F0 m (pc + 1) ls (.int (nI (L i)) :: rest))) : W p l e R s m args below meth c H locs cells slots Q (F0 m pc ls (.int (nI i) :: .ref a :: rest)) := va_iald hx hb hK hP q0 t0 ha ht (vp_in_nI hi hn) hd (by rw [nI_clamp (Nat.lt_trans hi hn)]; exact kk)
theorem r_iald (hx : p.tables.exec = Jvm.exec) (hb : c.code = cc) (hK : va_K D cl tys s) (hP : va_P D cl ws H) (q0 t0 : Nat) {f : Nat → Int32} (ha : ws[q0]? = some (a, .inl (cA, n, .inl (f)))) (ht : tys[t0]? = some (cA, .int)) (hi : i < n) (hn : n < 2147483648) (hd : decode cc pc = .ok (.iaload, 1)) (kk : W p l e R s m args below meth c H locs cells slots Q (F0 m (pc + 1) ls (.int (f i) :: rest))) : W p l e R s m args below meth c H locs cells slots Q (F0 m pc ls (.int (nI i) :: .ref a :: rest)) := va_iald hx hb hK hP q0 t0 ha ht (vp_in_nI hi hn) hd (by rw [nI_clamp (Nat.lt_trans hi hn)]; exact kk)
theorem r_cald (hx : p.tables.exec = Jvm.exec) (hb : c.code = cc) (hK : va_K D cl tys s) (hP : va_P D cl ws H) (q0 t0 : Nat) {f : Nat → Int32} (ha : ws[q0]? = some (a, .inl (cA, n, .inl (f)))) (ht : tys[t0]? = some (cA, .char)) (hi : i < n) (hn : n < 2147483648) (hd : decode cc pc = .ok (.caload, 1)) (kk : W p l e R s m args below meth c H locs cells slots Q (F0 m (pc + 1) ls (.int (f i) :: rest))) : W p l e R s m args below meth c H locs cells slots Q (F0 m pc ls (.int (nI i) :: .ref a :: rest)) := va_cald hx hb hK hP q0 t0 ha ht (vp_in_nI hi hn) hd (by rw [nI_clamp (Nat.lt_trans hi hn)]; exact kk)
theorem b_zald (hx : p.tables.exec = Jvm.exec) (hb : c.code = cc) (hK : va_K D cl tys s) (hP : va_P D cl ws H) (q0 t0 : Nat) {B : Nat → Bool} (ha : ws[q0]? = some (a, .inl (cA, n, .inl (bA B)))) (ht : tys[t0]? = some (cA, .boolean)) (hi : i < n) (hn : n < 2147483648) (hd : decode cc pc = .ok (.baload, 1)) (kk : W p l e R s m args below meth c H locs cells slots Q (F0 m (pc + 1) ls (.int (bI (B i)) :: rest))) : W p l e R s m args below meth c H locs cells slots Q (F0 m pc ls (.int (nI i) :: .ref a :: rest)) := va_zald hx hb hK hP q0 t0 ha ht (vp_in_nI hi hn) hd (by rw [nI_clamp (Nat.lt_trans hi hn)]; exact kk)
theorem r_bald (hx : p.tables.exec = Jvm.exec) (hb : c.code = cc) (hK : va_K D cl tys s) (hP : va_P D cl ws H) (q0 t0 : Nat) {f : Nat → Int32} (ha : ws[q0]? = some (a, .inl (cA, n, .inl (f)))) (ht : tys[t0]? = some (cA, .byte)) (hi : i < n) (hn : n < 2147483648) (hd : decode cc pc = .ok (.baload, 1)) (kk : W p l e R s m args below meth c H locs cells slots Q (F0 m (pc + 1) ls (.int (f i) :: rest))) : W p l e R s m args below meth c H locs cells slots Q (F0 m pc ls (.int (nI i) :: .ref a :: rest)) := va_bald hx hb hK hP q0 t0 ha ht (vp_in_nI hi hn) hd (by rw [nI_clamp (Nat.lt_trans hi hn)]; exact kk)
theorem n_cast (hx : p.tables.exec = Jvm.exec) (hb : c.code = cc) (hK : va_K D cl tys s) (hP : va_P D cl ws H) (hD : va_D A ws) (hS : va_S A H0 H locs) (q0 t0 : Nat) {L : Nat → Nat} {v : Nat} (ha : ws[q0]? = some (a, .inl (cA, n, .inl (nA L)))) (ht : tys[t0]? = some (cA, .char)) (hi : i < n) (hn : n < 2147483648) (hv : v < 65536) (hd : decode cc pc = .ok (.castore, 1)) (kk : ∀ (H1 : Heap) (locs1 : List Loc), va_P D cl (ws.set q0 (a, .inl (cA, n, .inl (nA (va_up L i v))))) H1 → va_D A (ws.set q0 (a, .inl (cA, n, .inl (nA (va_up L i v))))) → va_S A H0 H1 locs1 → W p l e R s m args below meth c H1 locs1 cells slots Q (F0 m (pc + 1) ls rest)) : W p l e R s m args below meth c H locs cells slots Q (F0 m pc ls (.int (nI v) :: .int (nI i) :: .ref a :: rest)) := va_cast hx hb hK hP hD hS q0 t0 ha ht (vp_in_nI hi hn) hd (by rw [nI_clamp (Nat.lt_trans hi hn), nI_cvp hv, nA_up]; exact kk)
theorem n_iast (hx : p.tables.exec = Jvm.exec) (hb : c.code = cc) (hK : va_K D cl tys s) (hP : va_P D cl ws H) (hD : va_D A ws) (hS : va_S A H0 H locs) (q0 t0 : Nat) {L : Nat → Nat} {v : Nat} (ha : ws[q0]? = some (a, .inl (cA, n, .inl (nA L)))) (ht : tys[t0]? = some (cA, .int)) (hi : i < n) (hn : n < 2147483648)  (hd : decode cc pc = .ok (.iastore, 1)) (kk : ∀ (H1 : Heap) (locs1 : List Loc), va_P D cl (ws.set q0 (a, .inl (cA, n, .inl (nA (va_up L i v))))) H1 → va_D A (ws.set q0 (a, .inl (cA, n, .inl (nA (va_up L i v))))) → va_S A H0 H1 locs1 → W p l e R s m args below meth c H1 locs1 cells slots Q (F0 m (pc + 1) ls rest)) : W p l e R s m args below meth c H locs cells slots Q (F0 m pc ls (.int (nI v) :: .int (nI i) :: .ref a :: rest)) := va_iast hx hb hK hP hD hS q0 t0 ha ht (vp_in_nI hi hn) hd (by rw [nI_clamp (Nat.lt_trans hi hn), nA_up]; exact kk)
theorem r_iast (hx : p.tables.exec = Jvm.exec) (hb : c.code = cc) (hK : va_K D cl tys s) (hP : va_P D cl ws H) (hD : va_D A ws) (hS : va_S A H0 H locs) (q0 t0 : Nat) {f : Nat → Int32} {x : Int32} (ha : ws[q0]? = some (a, .inl (cA, n, .inl (f)))) (ht : tys[t0]? = some (cA, .int)) (hi : i < n) (hn : n < 2147483648)  (hd : decode cc pc = .ok (.iastore, 1)) (kk : ∀ (H1 : Heap) (locs1 : List Loc), va_P D cl (ws.set q0 (a, .inl (cA, n, .inl (va_up f i x)))) H1 → va_D A (ws.set q0 (a, .inl (cA, n, .inl (va_up f i x)))) → va_S A H0 H1 locs1 → W p l e R s m args below meth c H1 locs1 cells slots Q (F0 m (pc + 1) ls rest)) : W p l e R s m args below meth c H locs cells slots Q (F0 m pc ls (.int (x) :: .int (nI i) :: .ref a :: rest)) := va_iast hx hb hK hP hD hS q0 t0 ha ht (vp_in_nI hi hn) hd (by rw [nI_clamp (Nat.lt_trans hi hn), rA_up]; exact kk)
theorem b_zast (hx : p.tables.exec = Jvm.exec) (hb : c.code = cc) (hK : va_K D cl tys s) (hP : va_P D cl ws H) (hD : va_D A ws) (hS : va_S A H0 H locs) (q0 t0 : Nat) {B : Nat → Bool} {v : Bool} (ha : ws[q0]? = some (a, .inl (cA, n, .inl (bA B)))) (ht : tys[t0]? = some (cA, .boolean)) (hi : i < n) (hn : n < 2147483648)  (hd : decode cc pc = .ok (.bastore, 1)) (kk : ∀ (H1 : Heap) (locs1 : List Loc), va_P D cl (ws.set q0 (a, .inl (cA, n, .inl (bA (va_up B i v))))) H1 → va_D A (ws.set q0 (a, .inl (cA, n, .inl (bA (va_up B i v))))) → va_S A H0 H1 locs1 → W p l e R s m args below meth c H1 locs1 cells slots Q (F0 m (pc + 1) ls rest)) : W p l e R s m args below meth c H locs cells slots Q (F0 m pc ls (.int (bI v) :: .int (nI i) :: .ref a :: rest)) := va_zast hx hb hK hP hD hS q0 t0 ha ht (vp_in_nI hi hn) hd (by rw [nI_clamp (Nat.lt_trans hi hn), bI_vp, bA_up]; exact kk)
end ARR
