/-! ===== the law's level: states, worlds ===== -/
/-- what the law can see: board, snapshot, whether there is one, what can be undone, text, line, fault, refusal, its detail -/
abbrev AS : Type := ZT × ZT × Bool × List ZT × List Nat × List Nat × Int32 × Int32 × Int32
abbrev CA : Type := (Nat × Nat × Nat × Nat × Nat × Nat × Nat × Nat) × ((Nat → Nat) × (Nat → Nat) × (Nat → Nat) × (Nat → Nat))
abbrev S3 : Type := (Nat → Nat) × (Nat → Nat) × Nat
abbrev CJ : Type := S3 × TZ × S3 × SBZ × SBZ × (Nat × Nat × (Nat → Nat) × (Nat → Nat) × (Nat → Nat)) × PZA × List PS × List PS
abbrev MAd : Type := Nat × (Nat → Nat)
abbrev MJ : Type := (Nat → Int32) × (Nat → Int32) × Nat × (Nat → Nat) × Nat × Bool × (Nat → Nat) × Nat × (Nat → Nat) × (Nat → Nat) × Int32 × Nat × Bool × (Nat → Int32)
def CBW (G : GG) (c : CA) (a : AS) (j : CJ) : va_W := cat [VTW G c.1.1 c.1.2.1 c.1.2.2.1 c.1.2.2.2.1 a.2.2.1 c.1.2.2.2.2.1 c.1.2.2.2.2.2.1 c.1.2.2.2.2.2.2.1 c.1.2.2.2.2.2.2.2 a.2.2.2.2.2.2.1 a.2.2.2.2.2.2.2.1 a.2.2.2.2.2.2.2.2, PW G c.1.2.1 c.2.1 a.1.1 a.1.2.1 a.1.2.2.1 a.1.2.2.2.1 a.1.2.2.2.2.1 a.1.2.2.2.2.2 j.1.1 j.1.2.1 j.1.2.2, PW G c.1.2.2.1 c.2.2.1 j.2.1.1.1 j.2.1.1.2.1 j.2.1.1.2.2.1 j.2.1.1.2.2.2.1 j.2.1.1.2.2.2.2.1 j.2.1.1.2.2.2.2.2 j.2.1.2.1 j.2.1.2.2.1 j.2.1.2.2.2, PW G c.1.2.2.2.1 c.2.2.2.1 a.2.1.1 a.2.1.2.1 a.2.1.2.2.1 a.2.1.2.2.2.1 a.2.1.2.2.2.2.1 a.2.1.2.2.2.2.2 j.2.2.1.1 j.2.2.1.2.1 j.2.2.1.2.2, SBB G c.1.2.2.2.2.2.1 j.2.2.2.1, SBB G c.1.2.2.2.2.2.2.1 j.2.2.2.2.1, RDW G c.1.2.2.2.2.2.2.2 c.2.2.2.2 c.1.2.2.2.2.2.1 j.2.2.2.2.2.1.1 j.2.2.2.2.2.1.2.1 j.2.2.2.2.2.1.2.2.1 j.2.2.2.2.2.1.2.2.2.1 j.2.2.2.2.2.1.2.2.2.2, PAW G c.1.2.2.2.2.1 j.2.2.2.2.2.2.1 j.2.2.2.2.2.2.2.1 j.2.2.2.2.2.2.2.2]
abbrev MAW (G : GG) (c : MAd) (b : AS) (k : MJ) (th : Int32) : va_W := MW G c.1 c.2 b.1.1 b.1.2.1 b.1.2.2.1 b.1.2.2.2.1 b.1.2.2.2.2.1 b.1.2.2.2.2.2 k.1 k.2.1 (gZ b.2.1) k.2.2.1 b.2.2.1 k.2.2.2.1 k.2.2.2.2.1 b.2.2.2.2.2.2.1 b.2.2.2.2.2.2.2.1 b.2.2.2.2.2.2.2.2 k.2.2.2.2.2.1 k.2.2.2.2.2.2.1 k.2.2.2.2.2.2.2.1 th k.2.2.2.2.2.2.2.2.1 k.2.2.2.2.2.2.2.2.2.1 k.2.2.2.2.2.2.2.2.2.2.1 k.2.2.2.2.2.2.2.2.2.2.2.1 k.2.2.2.2.2.2.2.2.2.2.2.2.1 k.2.2.2.2.2.2.2.2.2.2.2.2.2
abbrev LAW (G : GG) (h : Nat) (v : Int64) : va_W := [(h, .inl (G.2.1 4, 1, .inr (.inl (fun _ => v))))]
abbrev DAW (G : GG) (h : Nat) (v : UInt64) : va_W := [(h, .inl (G.2.1 5, 1, .inr (.inr (.inr (.inl (fun _ => v))))))]
/-- valid states -/
def vA (a : AS) : Prop := vZ a.1 ∧ (a.2.2.1 = true → vZ a.2.1) ∧ (∀ z ∈ a.2.2.2.1, vZ z) ∧ (a.2.2.2.2.1.length ≤ 60 ∧ ∀ j, a.2.2.2.2.1.getD j 0 < 65536) ∧ (a.2.2.2.2.2.1.length ≤ 20 ∧ ∀ j, a.2.2.2.2.2.1.getD j 0 < 65536) ∧ ∃ rn, rn < 100 ∧ a.2.2.2.2.2.2.2.1 = nI rn
/-- the component's cells hold the state -/
def okC (a : AS) (j : CJ) : Prop := okT j.2.1 ∧ (∀ i, j.1.1 i < 65536) ∧ (∀ i, j.1.2.1 i < 100) ∧ SBh j.2.2.2.1 a.2.2.2.2.1 ∧ SBh j.2.2.2.2.1 a.2.2.2.2.2.1 ∧ PAh j.2.2.2.2.2.2.1 j.2.2.2.2.2.2.2.1 j.2.2.2.2.2.2.2.2 ∧ j.2.2.2.2.2.2.2.1.length + j.2.2.2.2.2.2.2.2.length = 8 ∧ psz j.2.2.2.2.2.2.2.1 = a.2.2.2.1 ∧ (∀ i, a.2.1.2.2.1 i < 65536) ∧ (∀ i, a.2.1.2.2.2.1 i < 65536)
/-- the model's cells hold the state -/
def okM (b : AS) (k : MJ) : Prop := HistA k.2.1 b.2.2.2.1 k.2.2.1 ∧ (k.2.2.2.2.1 = b.2.2.2.2.1.length ∧ ∀ j, j < b.2.2.2.2.1.length → k.2.2.2.1 j = b.2.2.2.2.1.getD j 0) ∧ HoldT b.2.2.2.2.2.1 k.2.2.2.2.2.2.1 k.2.2.2.2.2.2.2.1
def oV (k : Nat) (x : Int32) (v : Int64) : Int64 := if k = 0 then x.toInt64 else v
theorem oV_0 {k : Nat} {x : Int32} {v : Int64} (h : k = 0) : oV k x v = x.toInt64 := if_pos h
theorem oV_f {k : Nat} {x : Int32} {v : Int64} (h : ¬ k = 0) : oV k x v = v := if_neg h
abbrev QT : Type := Nat × Int32 × AS
/-- what an order's outcome makes of the state -/
def asO (a : AS) (o : OT) : AS := if o.1 = 0 then (o.2.1, a.2.1, a.2.2.1, pushH a.2.2.2.1 a.1, a.2.2.2.2.1, a.2.2.2.2.2.1, a.2.2.2.2.2.2.1, a.2.2.2.2.2.2.2.1, a.2.2.2.2.2.2.2.2) else (a.1, a.2.1, a.2.2.1, a.2.2.2.1, a.2.2.2.2.1, a.2.2.2.2.2.1, a.2.2.2.2.2.2.1, oWy o a.2.2.2.2.2.2.2.1, oWd o a.2.2.2.2.2.2.2.2)
def qO (a : AS) (o : OT) : QT := (o.1, o.2.2.1, asO a o)
theorem qO_0 {a : AS} {o : OT} (h : o.1 = 0) : qO a o = (0, o.2.2.1, o.2.1, a.2.1, a.2.2.1, pushH a.2.2.2.1 a.1, a.2.2.2.2.1, a.2.2.2.2.2.1, a.2.2.2.2.2.2.1, a.2.2.2.2.2.2.2.1, a.2.2.2.2.2.2.2.2) := by unfold qO asO; rw [if_pos h, h]
theorem qO_f {a : AS} {o : OT} {n : Nat} (h : o.1 = n) (h0 : ¬ n = 0) : qO a o = (n, o.2.2.1, a.1, a.2.1, a.2.2.1, a.2.2.2.1, a.2.2.2.2.1, a.2.2.2.2.2.1, a.2.2.2.2.2.2.1, oWy o a.2.2.2.2.2.2.2.1, oWd o a.2.2.2.2.2.2.2.2) := by unfold qO asO; rw [if_neg (by rw [h]; exact h0), h]
theorem say_e {D : va_G} {cl : List vw_C} {A : Nat → Prop} {ws : va_W} {H : Heap} {a : Nat} {e e' : va_E} (hP : va_P D cl ws H) (hD : va_D A ws) (k : Nat) (hk : ws[k]? = some (a, e)) (he : va_at D cl (a, e) H → va_at D cl (a, e') H) : va_P D cl (ws.set k (a, e')) H ∧ va_D A (ws.set k (a, e')) := ⟨hP.set hD hk (he (hP k _ hk)) (fun _ _ => rfl), hD.set hk⟩
section LAWR
variable {p : Program} {l : Launch} {e : Env} {R : Room} {s : State} {m : MethodId} {args : Array Value} {below : List Frame} {meth : Method} {c : Code} {H : Heap} {locs : List Loc} {cells slots : Nat} {Q : State → Prop} {cc : ByteArray} {pc : Nat} {ls : Array Slot} {rest : List Value} {G : GG} {ws : va_W} {A : Nat → Prop} {a : Nat}
theorem l_st (hx : p.tables.exec = Jvm.exec) (hb : c.code = cc) (hK : va_K G.1 CL (TYS G) s) (hP : va_P G.1 CL ws H) (hD : va_D A ws) (hS : va_S A s.heap H locs) (q0 : Nat) {v x : Int64} (ha : ws[q0]? = some (a, .inl (G.2.1 4, 1, .inr (.inl (fun _ => v))))) (hd : decode cc pc = .ok (.lastore, 1))
    (kk : ∀ (H1 : Heap) (locs1 : List Loc), va_P G.1 CL (ws.set q0 (a, .inl (G.2.1 4, 1, .inr (.inl (fun _ => x))))) H1 → va_D A (ws.set q0 (a, .inl (G.2.1 4, 1, .inr (.inl (fun _ => x))))) → va_S A s.heap H1 locs1 → W p l e R s m args below meth c H1 locs1 cells slots Q (F0 m (pc + 1) ls rest)) : W p l e R s m args below meth c H locs cells slots Q (F0 m pc ls (.long x :: .int (nI 0) :: .ref a :: rest)) := by
  refine va_last hx hb hK hP hD hS q0 4 ha rfl (vp_in_nI (by decide) (by decide)) hd (fun H1 locs1 hP1 hD1 hS1 => ?_)
  have hlt : q0 < ws.length := (List.getElem?_eq_some_iff.mp ha).1
  obtain ⟨hP2, hD2⟩ := say_e (e' := .inl (G.2.1 4, 1, .inr (.inl (fun _ => x)))) hP1 hD1 q0 (List.getElem?_set_self hlt) (fun h => by
    have h1 : H1[a]? = some (vp_cell _ _) := h
    show H1[a]? = some (vp_cell _ _)
    rw [h1]
    congr 1)
  rw [List.set_set] at hP2 hD2
  exact kk H1 locs1 hP2 hD2 hS1
theorem l_ld (hx : p.tables.exec = Jvm.exec) (hb : c.code = cc) (hK : va_K G.1 CL (TYS G) s) (hP : va_P G.1 CL ws H) (q0 : Nat) {v : Int64} (ha : ws[q0]? = some (a, .inl (G.2.1 4, 1, .inr (.inl (fun _ => v))))) (hd : decode cc pc = .ok (.laload, 1)) (kk : W p l e R s m args below meth c H locs cells slots Q (F0 m (pc + 1) ls (.long v :: rest))) : W p l e R s m args below meth c H locs cells slots Q (F0 m pc ls (.int (nI 0) :: .ref a :: rest)) := va_lald hx hb hK hP q0 4 ha rfl (vp_in_nI (by decide) (by decide)) hd kk
theorem d_st (hx : p.tables.exec = Jvm.exec) (hb : c.code = cc) (hK : va_K G.1 CL (TYS G) s) (hP : va_P G.1 CL ws H) (hD : va_D A ws) (hS : va_S A s.heap H locs) (q0 : Nat) {v x : UInt64} (ha : ws[q0]? = some (a, .inl (G.2.1 5, 1, .inr (.inr (.inr (.inl (fun _ => v))))))) (hd : decode cc pc = .ok (.dastore, 1))
    (kk : ∀ (H1 : Heap) (locs1 : List Loc), va_P G.1 CL (ws.set q0 (a, .inl (G.2.1 5, 1, .inr (.inr (.inr (.inl (fun _ => x))))))) H1 → va_D A (ws.set q0 (a, .inl (G.2.1 5, 1, .inr (.inr (.inr (.inl (fun _ => x))))))) → va_S A s.heap H1 locs1 → W p l e R s m args below meth c H1 locs1 cells slots Q (F0 m (pc + 1) ls rest)) : W p l e R s m args below meth c H locs cells slots Q (F0 m pc ls (.double x :: .int (nI 0) :: .ref a :: rest)) := by
  refine va_dast hx hb hK hP hD hS q0 5 ha rfl (vp_in_nI (by decide) (by decide)) hd (fun H1 locs1 hP1 hD1 hS1 => ?_)
  have hlt : q0 < ws.length := (List.getElem?_eq_some_iff.mp ha).1
  obtain ⟨hP2, hD2⟩ := say_e (e' := .inl (G.2.1 5, 1, .inr (.inr (.inr (.inl (fun _ => x)))))) hP1 hD1 q0 (List.getElem?_set_self hlt) (fun h => by
    have h1 : H1[a]? = some (vp_cell _ _) := h
    show H1[a]? = some (vp_cell _ _)
    rw [h1]
    congr 1)
  rw [List.set_set] at hP2 hD2
  exact kk H1 locs1 hP2 hD2 hS1
theorem d_ld (hx : p.tables.exec = Jvm.exec) (hb : c.code = cc) (hK : va_K G.1 CL (TYS G) s) (hP : va_P G.1 CL ws H) (q0 : Nat) {v : UInt64} (ha : ws[q0]? = some (a, .inl (G.2.1 5, 1, .inr (.inr (.inr (.inl (fun _ => v))))))) (hd : decode cc pc = .ok (.daload, 1)) (kk : W p l e R s m args below meth c H locs cells slots Q (F0 m (pc + 1) ls (.double v :: rest))) : W p l e R s m args below meth c H locs cells slots Q (F0 m pc ls (.int (nI 0) :: .ref a :: rest)) := va_dald hx hb hK hP q0 5 ha rfl (vp_in_nI (by decide) (by decide)) hd kk
theorem l_cmp0 (hx : p.tables.exec = Jvm.exec) (hb : c.code = cc) {x y : Int64} (h : x = y) (hd : decode cc pc = .ok (.lcmp, 1)) (kk : W p l e R s m args below meth c H locs cells slots Q (F0 m (pc + 1) ls (.int (nI 0) :: rest))) : W p l e R s m args below meth c H locs cells slots Q (F0 m pc ls (.long y :: .long x :: rest)) := by
  subst h
  refine W.lcmp hx hb hd ?_
  rw [show lg_cmp x x = nI 0 from by unfold lg_cmp; simp [Int64.lt_irrefl]; rfl]
  exact kk
theorem n_sld (hx : p.tables.exec = Jvm.exec) (hb : c.code = cc) {b L : Nat} {xs : Nat → Int32} (hX : va_X b L xs s s.heap) (hbl : b < s.heap.size) (hbA : ¬ A b) (hS : va_S A s.heap H locs) {i : Nat} (hi : i < L) (hL : L ≤ 256) (hd : decode cc pc = .ok (.iaload, 1)) (kk : W p l e R s m args below meth c H locs cells slots Q (F0 m (pc + 1) ls (.int (xs i) :: rest))) : W p l e R s m args below meth c H locs cells slots Q (F0 m pc ls (.int (nI i) :: .ref b :: rest)) := va_sld hx hb hX hbl hbA hS (vp_in_nI hi (by omega)) hd (by rw [nI_clamp (by omega)]; exact kk)
end LAWR
def ch_ (x : Int32) : Nat := x.toBitVec.toNat % 65536
theorem ch_lt (x : Int32) : ch_ x < 65536 := Nat.mod_lt _ (by decide)
