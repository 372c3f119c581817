/-! ===== the two states stay together ===== -/
def RL : List ZT → List ZT → Prop
  | [], [] => True
  | x :: xs, y :: ys => ZA x y ∧ RL xs ys
  | _, _ => False
theorem RL.len : ∀ {xs ys : List ZT}, RL xs ys → xs.length = ys.length
  | [], [], _ => rfl
  | x :: xs, y :: ys, h => by simp [h.2.len]
  | [], _ :: _, h => h.elim
  | _ :: _, [], h => h.elim
theorem RL.app : ∀ {xs ys : List ZT} {x y : ZT}, RL xs ys → ZA x y → RL (xs ++ [x]) (ys ++ [y])
  | [], [], _, _, _, h => ⟨h, trivial⟩
  | a :: xs, b :: ys, _, _, h, h2 => ⟨h.1, h.2.app h2⟩
  | [], _ :: _, _, _, h, _ => h.elim
  | _ :: _, [], _, _, h, _ => h.elim
theorem RL.drp : ∀ {xs ys : List ZT}, RL xs ys → RL (xs.drop 1) (ys.drop 1)
  | [], [], _ => trivial
  | a :: xs, b :: ys, h => h.2
  | [], _ :: _, h => h.elim
  | _ :: _, [], h => h.elim
theorem RL.dl : ∀ {xs ys : List ZT}, RL xs ys → RL xs.dropLast ys.dropLast
  | [], [], _ => trivial
  | [_], [_], _ => trivial
  | a :: a2 :: xs, b :: b2 :: ys, h => ⟨h.1, RL.dl (xs := a2 :: xs) (ys := b2 :: ys) h.2⟩
  | [], _ :: _, h => h.elim
  | _ :: _, [], h => h.elim
  | [_], _ :: _ :: _, h => h.2.elim
  | _ :: _ :: _, [_], h => h.2.elim
theorem RL.gl : ∀ {xs ys : List ZT} {d e : ZT}, RL xs ys → ZA d e → ZA (xs.getLastD d) (ys.getLastD e)
  | [], [], _, _, _, h => h
  | a :: xs, b :: ys, _, _, h, _ => by rw [List.getLastD_cons, List.getLastD_cons]; exact h.2.gl h.1
  | [], _ :: _, _, _, h, _ => h.elim
  | _ :: _, [], _, _, h, _ => h.elim
theorem RL.psh {xs ys : List ZT} {x y : ZT} (h : RL xs ys) (h2 : ZA x y) : RL (pushH xs x) (pushH ys y) := by
  unfold pushH; rw [h.len]; split
  · exact h.drp.app h2
  · exact h.app h2
theorem gl_mem : ∀ {xs : List ZT} {d : ZT}, xs.getLastD d = d ∨ xs.getLastD d ∈ xs
  | [], d => Or.inl rfl
  | a :: xs, d => by
    rw [List.getLastD_cons]
    rcases gl_mem (xs := xs) (d := a) with h | h
    · rw [h]; exact Or.inr (List.mem_cons_self ..)
    · exact Or.inr (List.mem_cons_of_mem _ h)
theorem psh_mem {xs : List ZT} {x y : ZT} (h : y ∈ pushH xs x) : y ∈ xs ∨ y = x := by
  unfold pushH at h; split at h
  · rcases List.mem_append.mp h with h | h
    · exact Or.inl (List.mem_of_mem_drop h)
    · exact Or.inr (List.mem_singleton.mp h)
  · rcases List.mem_append.mp h with h | h
    · exact Or.inl h
    · exact Or.inr (List.mem_singleton.mp h)
def RA (a b : AS) : Prop := ZA a.1 b.1 ∧ a.2.2.1 = b.2.2.1 ∧ (a.2.2.1 = true → ZA a.2.1 b.2.1) ∧ RL a.2.2.2.1 b.2.2.2.1 ∧ a.2.2.2.2 = b.2.2.2.2
def SS (a b : AS) : Prop := vA a ∧ vA b ∧ RA a b
def SQ (q r : QT) : Prop := q.1 = r.1 ∧ q.2.1 = r.2.1 ∧ SS q.2.2 r.2.2
theorem sq_I {c d : Bool} {x y : Int32} {a b a' b' : AS} (h : SS a b) (hc : c = d) (hx : c = true → x = y) (hs : c = true → SS a' b') : SQ (qI c x a a') (qI d y b b') := by
  subst hc
  unfold qI; split
  · rename_i e; exact ⟨rfl, hx e, hs e⟩
  · exact ⟨rfl, rfl, h⟩
theorem sq_I0 {c d : Bool} {x y : Int32} {a b : AS} (h : SS a b) (hc : c = d) (hx : c = true → x = y) : SQ (qI c x a a) (qI d y b b) := sq_I h hc hx (fun _ => h)
theorem sq_W {c d : Bool} {x : Int32} {a b : AS} (h : SS a b) : SQ (qW c d x a) (qW c d x b) := by
  unfold qW; split
  · split
    · exact ⟨rfl, rfl, h⟩
    · exact ⟨rfl, rfl, h⟩
  · exact ⟨rfl, rfl, h⟩
theorem ss_li {a b : AS} {xs ys : List Nat} (h : SS a b) (e : xs = ys) (hl : ys.length ≤ 20) (hb : ∀ c ∈ ys, c < 65536) : SS (liA a xs) (liA b ys) := by
  subst e
  have hg : ∀ j, xs.getD j 0 < 65536 := fun j => by
    rw [List.getD_eq_getElem?_getD]
    cases hj : xs[j]? with
    | none => exact (by decide : 0 < 65536)
    | some v => exact hb v (List.mem_of_getElem? hj)
  obtain ⟨⟨h1, h2, h3, h4, _, h6⟩, ⟨g1, g2, g3, g4, _, g6⟩, r1, r2, r3, r4, r5⟩ := h
  refine ⟨⟨h1, h2, h3, h4, ⟨hl, hg⟩, h6⟩, ⟨g1, g2, g3, g4, ⟨hl, hg⟩, g6⟩, r1, r2, r3, r4, ?_⟩
  show (a.2.2.2.2.1, xs, a.2.2.2.2.2.2) = (b.2.2.2.2.1, xs, b.2.2.2.2.2.2)
  rw [r5]
theorem ss_bu {a b : AS} {v : Nat} (h : SS a b) (hl : a.2.2.2.2.1.length < 60) (hv : v < 65536) : SS (buA a (a.2.2.2.2.1 ++ [v])) (buA b (b.2.2.2.2.1 ++ [v])) := by
  obtain ⟨⟨h1, h2, h3, h4, h5, h6⟩, ⟨g1, g2, g3, g4, g5, g6⟩, r1, r2, r3, r4, r5⟩ := h
  have e : b.2.2.2.2.1 = a.2.2.2.2.1 := by rw [r5]
  have hg : ∀ j, (a.2.2.2.2.1 ++ [v]).getD j 0 < 65536 := fun j => by
    rw [List.getD_eq_getElem?_getD, List.getElem?_append]
    split
    · have := h4.2 j; rwa [List.getD_eq_getElem?_getD] at this
    · cases hj : ([v] : List Nat)[j - a.2.2.2.2.1.length]? with
      | none => exact (by decide : 0 < 65536)
      | some w => have := List.mem_of_getElem? hj; rw [List.mem_singleton] at this; rw [this]; exact hv
  have hl2 : (a.2.2.2.2.1 ++ [v]).length ≤ 60 := by rw [List.length_append]; simp; omega
  rw [e]
  refine ⟨⟨h1, h2, h3, ⟨hl2, hg⟩, h5, h6⟩, ⟨g1, g2, g3, ⟨hl2, hg⟩, g5, g6⟩, r1, r2, r3, r4, ?_⟩
  show (a.2.2.2.2.1 ++ [v], a.2.2.2.2.2) = (a.2.2.2.2.1 ++ [v], b.2.2.2.2.2)
  rw [r5]
theorem ss_un {a b : AS} (h : SS a b) : SS (unA a) (unA b) := by
  obtain ⟨⟨h1, h2, h3, h4, h5, h6⟩, ⟨g1, g2, g3, g4, g5, g6⟩, r1, r2, r3, r4, r5⟩ := h
  refine ⟨⟨?_, h2, fun z hz => h3 z (List.dropLast_subset _ hz), h4, h5, h6⟩, ⟨?_, g2, fun z hz => g3 z (List.dropLast_subset _ hz), g4, g5, g6⟩, r4.gl r1, r2, r3, r4.dl, r5⟩
  · rcases gl_mem (xs := a.2.2.2.1) (d := a.1) with e | e
    · show vZ (a.2.2.2.1.getLastD a.1); rw [e]; exact h1
    · exact h3 _ e
  · rcases gl_mem (xs := b.2.2.2.1) (d := b.1) with e | e
    · show vZ (b.2.2.2.1.getLastD b.1); rw [e]; exact g1
    · exact g3 _ e
theorem ss_rs {a b : AS} (h : SS a b) (e : a.2.2.1 = true) : SS (rsA a) (rsA b) := by
  obtain ⟨⟨h1, h2, h3, h4, h5, h6⟩, ⟨g1, g2, g3, g4, g5, g6⟩, r1, r2, r3, r4, r5⟩ := h
  have e' : b.2.2.1 = true := r2 ▸ e
  exact ⟨⟨h2 e, h2, fun z hz => absurd hz (List.not_mem_nil), h4, h5, h6⟩, ⟨g2 e', g2, fun z hz => absurd hz (List.not_mem_nil), g4, g5, g6⟩, r3 e, r2, r3, trivial, r5⟩
theorem ss_sv {a b : AS} (h : SS a b) : SS (svA a) (svA b) := by
  obtain ⟨⟨h1, h2, h3, h4, h5, h6⟩, ⟨g1, g2, g3, g4, g5, g6⟩, r1, r2, r3, r4, r5⟩ := h
  exact ⟨⟨h1, fun _ => h1, h3, h4, h5, h6⟩, ⟨g1, fun _ => g1, g3, g4, g5, g6⟩, r1, rfl, fun _ => r1, r4, r5⟩
/-- an order's refusal is one of a few -/
def wyO (o : OT) : Prop := ∀ x, o.2.2.2 = some x → ∃ rn, rn < 100 ∧ x.1 = nI rn
theorem wyO_n {n : Nat} {z : ZT} {v : Int32} : wyO (n, z, v, none) := fun _ h => by cases h
theorem wyO_s {n k : Nat} {z : ZT} {v y : Int32} (h : k < 100) : wyO (n, z, v, some (nI k, y)) := fun _ e => by cases e; exact ⟨k, h, rfl⟩
theorem wyO_if {P : Prop} [Decidable P] {a b : OT} (h1 : wyO a) (h2 : wyO b) : wyO (if P then a else b) := by split <;> assumption
theorem wy_board (J : Nat → Nat) (z : ZT) (a b : Int32) : wyO (oBoard J z a b) := wyO_if wyO_n wyO_n
theorem wy_put (z : ZT) (a b : Int32) : wyO (oPut z a b) := wyO_if (wyO_if (wyO_if (wyO_s (by decide)) wyO_n) wyO_n) wyO_n
theorem wy_goal (z : ZT) (a b : Int32) : wyO (oGoal z a b) := wyO_if (wyO_if (wyO_if (wyO_s (by decide)) wyO_n) wyO_n) wyO_n
theorem wy_turn (z : ZT) (a : Int32) : wyO (oTurn z a) := wyO_if (wyO_if (wyO_s (by decide)) wyO_n) wyO_n
theorem wy_swap (z : ZT) (a b : Int32) : wyO (oSwap z a b) := wyO_if (wyO_if (wyO_s (by decide)) wyO_n) wyO_n
theorem wy_bar (z : ZT) (a : Int32) : wyO (oBar z a) := wyO_if wyO_n wyO_n
theorem wy_scr (z : ZT) (a b : Int32) : wyO (oScr z a b) := wyO_if wyO_n wyO_n
theorem wy_step (z : ZT) : wyO (oStep z) := wyO_if (wyO_s (by decide)) (wyO_if (wyO_s (by decide)) (wyO_if wyO_n wyO_n))
theorem wy_ord (J : Nat → Nat) (z : ZT) (o : ORD) : wyO (ordO J z o) := wyO_if (wy_board _ _ _ _) (wyO_if (wy_swap _ _ _) (wyO_if (wy_put _ _ _) (wyO_if (wy_goal _ _ _) (wyO_if (wy_turn _ _) (wyO_if (wy_bar _ _) (wy_scr _ _ _))))))
theorem wy_do (J : Nat → Nat) : ∀ (os : List ORD) (z : ZT), wyO (doN J os z)
  | [], z => wyO_n
  | o :: os, z => by
    by_cases h0 : (ordO J z o).1 = 0
    · rw [doN_s h0]; exact wy_do J os _
    · rw [doN_f h0]; exact wy_ord J z o
theorem wy_run (J t : Nat → Nat) (n : Nat) (z : ZT) : wyO (runO J t n z) := by
  unfold runO; split
  · exact wyO_n
  · split
    · exact wyO_n
    · exact wy_do J _ z
theorem wyO.wy {o : OT} (h : wyO o) {w : Int32} (hw : ∃ rn, rn < 100 ∧ w = nI rn) : ∃ rn, rn < 100 ∧ oWy o w = nI rn := by
  unfold oWy
  cases e : o.2.2.2 with
  | none => exact hw
  | some x => exact h x e
theorem oH_mem {o : OT} {xs : List ZT} {x y : ZT} (h : y ∈ oH o xs x) : y ∈ xs ∨ y = x := by
  unfold oH at h; split at h
  · exact psh_mem h
  · exact Or.inl h
theorem vA_O {a : AS} {o : OT} (h : vA a) (ho : okO a.1 o) (hv : vZ o.2.1) (hw : wyO o) : vA (asO a o) := by
  obtain ⟨h1, h2, h3, h4, h5, h6⟩ := h
  rw [asO_eq ho]
  refine ⟨hv, h2, fun z hz => ?_, h4, h5, hw.wy h6⟩
  rcases oH_mem hz with h | h
  · exact h3 z h
  · rw [h]; exact h1
theorem RA_O {a b : AS} {o p : OT} (h : RA a b) (ha : okO a.1 o) (hb : okO b.1 p) (hz : OZ o p) : RA (asO a o) (asO b p) := by
  obtain ⟨r1, r2, r3, r4, r5⟩ := h
  rw [asO_eq ha, asO_eq hb]
  refine ⟨hz.2.1, r2, r3, ?_, ?_⟩
  · show RL (oH o _ _) (oH p _ _)
    unfold oH; rw [hz.1]; split
    · exact r4.psh r1
    · exact r4
  · show (a.2.2.2.2.1, a.2.2.2.2.2.1, a.2.2.2.2.2.2.1, oWy o a.2.2.2.2.2.2.2.1, oWd o a.2.2.2.2.2.2.2.2) = (b.2.2.2.2.1, b.2.2.2.2.2.1, b.2.2.2.2.2.2.1, oWy p b.2.2.2.2.2.2.2.1, oWd p b.2.2.2.2.2.2.2.2)
    unfold oWy oWd; rw [r5, hz.2.2.2]
theorem sq_O {a b : AS} {o p : OT} (h : SS a b) (ha : okO a.1 o) (hb : okO b.1 p) (hz : OZ o p) (hv : vZ o.2.1) (hv' : vZ p.2.1) (hw : wyO o) (hw' : wyO p) : SQ (qO a o) (qO b p) := ⟨hz.1, hz.2.2.1, vA_O h.1 ha hv hw, vA_O h.2.1 hb hv' hw', RA_O h.2.2 ha hb hz⟩
theorem vZ_run {J t : Nat → Nat} {n : Nat} {z : ZT} (hJ : ∀ i, J i < 65536) (h : vZ z) : vZ (runO J t n z).2.1 := by
  unfold runO; split
  · exact h
  · split
    · exact vZ_do hJ _ _ h
    · exact h
theorem sq_R {a b : AS} (h : SS a b) : SQ (qR b9 a) (qR (fun _ => 97) b) := by
  obtain ⟨hv, hw, hr⟩ := h
  have e : b.2.2.2.2 = a.2.2.2.2 := hr.2.2.2.2.symm
  have hz : OZ (runO b9 (xt a.2.2.2.2.1) a.2.2.2.2.1.length a.1) (runO (fun _ => 97) (xt b.2.2.2.2.1) b.2.2.2.2.1.length b.1) := by
    rw [e]; exact oz_run b9_lt hv.1 hr.1
  have va := vA_O hv (ok_run b9 (xt a.2.2.2.2.1) a.2.2.2.2.1.length a.1) (vZ_run b9_lt hv.1) (wy_run _ _ _ _)
  have vb := vA_O hw (ok_run (fun _ => 97) (xt b.2.2.2.2.1) b.2.2.2.2.1.length b.1) (vZ_run (fun _ => by decide) hw.1) (wy_run _ _ _ _)
  have rr := RA_O hr (ok_run _ _ _ _) (ok_run _ _ _ _) hz
  have hf : faR a = faR b := by unfold faR; rw [e]
  have n0 : ([] : List Nat).length ≤ 60 ∧ ∀ j, ([] : List Nat).getD j 0 < 65536 := ⟨by decide, fun j => by simp⟩
  refine ⟨hz.1, hz.2.2.1, ⟨va.1, hv.2.1, va.2.2.1, n0, hv.2.2.2.2.1, va.2.2.2.2.2⟩, ⟨vb.1, hw.2.1, vb.2.2.1, n0, hw.2.2.2.2.1, vb.2.2.2.2.2⟩, rr.1, hr.2.1, hr.2.2.1, rr.2.2.2.1, ?_⟩
  have r5 := rr.2.2.2.2
  show (([] : List Nat), a.2.2.2.2.2.1, faR a, (asO a _).2.2.2.2.2.2.2.1, (asO a _).2.2.2.2.2.2.2.2) = (([] : List Nat), b.2.2.2.2.2.1, faR b, (asO b _).2.2.2.2.2.2.2.1, (asO b _).2.2.2.2.2.2.2.2)
  rw [r5, hf, e]
theorem tx_b {nc : Nat} {A : Nat → Nat} (h : ∀ i, A i < 65536) : ∀ i, ∀ c ∈ txN nc A i, c < 65536
  | 0, c, hc => absurd hc (List.not_mem_nil)
  | i + 1, c, hc => by
    simp only [txN, List.mem_append, List.mem_singleton] at hc
    rcases hc with (hc | hc) | hc
    · exact tx_b h i c hc
    · split at hc
      · rw [List.mem_singleton] at hc; omega
      · exact absurd hc (List.not_mem_nil)
    · rw [hc]; exact h i
theorem ls_b {A : Nat → Nat} (h : ∀ i, A i < 65536) : ∀ i, ∀ c ∈ lsN A i, c < 65536
  | 0, c, hc => absurd hc (List.not_mem_nil)
  | i + 1, c, hc => by
    simp only [lsN, List.mem_append, List.mem_singleton] at hc
    rcases hc with hc | hc
    · exact ls_b h i c hc
    · rw [hc]; exact h i
theorem lx_b {nr nc l : Nat} {L : Nat → Nat} {B : Nat → Bool} (hd : 2 ≤ nr ∧ nr ≤ 3 ∧ 2 ≤ nc ∧ nc ≤ 3) (h : ∀ i, L i < 65536) : (lineX nr nc L B l).length ≤ 20 ∧ ∀ c ∈ lineX nr nc L B l, c < 65536 := by
  unfold lineX
  constructor
  · have := (szOf_lt (line := l) hd).2
    simp only [List.length_append, lsN_len]
    split <;> split <;> simp <;> omega
  · intro c hc
    simp only [List.mem_append] at hc
    rcases hc with (hc | hc) | hc
    · split at hc
      · rw [List.mem_singleton] at hc; omega
      · exact absurd hc (List.not_mem_nil)
    · exact ls_b (fun k => h _) _ c hc
    · split at hc
      · rw [List.mem_singleton] at hc; omega
      · exact absurd hc (List.not_mem_nil)
def SD (q r : Nat × UInt64 × AS) : Prop := q.1 = r.1 ∧ q.2.1 = r.2.1 ∧ SS q.2.2 r.2.2
theorem sd_D {c d : Bool} {x y : UInt64} {a b : AS} (h : SS a b) (hc : c = d) (hx : c = true → x = y) : SD (qD c x a) (qD d y b) := by
  subst hc
  unfold qD; split
  · rename_i e; exact ⟨rfl, hx e, h⟩
  · exact ⟨rfl, rfl, h⟩
theorem sq_letter {a b : AS} (h : SS a b) (p0 : Int32) : SQ (qI (isIx p0 (a.1.1 * a.1.2.1)) (nI (a.1.2.2.1 (cl_ p0))) a a) (qI (isIx p0 (b.1.1 * b.1.2.1)) (nI (b.1.2.2.1 (cl_ p0))) b b) := by
  obtain ⟨z, s, e, hl, bu, re⟩ := a
  obtain ⟨w, s', e', hl', bu', re'⟩ := b
  obtain ⟨hv, hw, hz, he, hsv, hh, hr⟩ := id h
  have hr : (bu, re) = (bu', re') := hr
  obtain ⟨rfl, rfl⟩ := Prod.mk.inj hr
  have he : e = e' := he
  subst he
  have hz : ZA z w := hz
  obtain ⟨nr, nc, L, M, K, N, B, k, rfl, rfl, hL, hK⟩ := hz
  obtain ⟨hd, hLR, hKR, hL9, hK9⟩ := hv.1
  have hd : 2 ≤ nr ∧ nr ≤ 3 ∧ 2 ≤ nc ∧ nc ≤ 3 := hd
  have hLR : ∀ q, q < nr * nc → 97 ≤ L q ∧ L q ≤ 108 := hLR
  have hKR : ∀ q, q < nr * nc → K q = 46 ∨ (97 ≤ K q ∧ K q ≤ 108) := hKR
  have hmu := dm_mul hd
  have hn : nr * nc < 2147483648 := by omega
  have hl1 : nr + nc < 2147483648 := by omega
  have hl2 : 2 * (nr + nc) < 2147483648 := by omega
  exact sq_I0 h rfl (fun c => congrArg nI (hL _ (ix_cl c hn)))
theorem sq_sign {a b : AS} (h : SS a b) (p0 : Int32) : SQ (qI (isIx p0 (a.1.1 * a.1.2.1)) (nI (a.1.2.2.2.1 (cl_ p0))) a a) (qI (isIx p0 (b.1.1 * b.1.2.1)) (nI (b.1.2.2.2.1 (cl_ p0))) b b) := by
  obtain ⟨z, s, e, hl, bu, re⟩ := a
  obtain ⟨w, s', e', hl', bu', re'⟩ := b
  obtain ⟨hv, hw, hz, he, hsv, hh, hr⟩ := id h
  have hr : (bu, re) = (bu', re') := hr
  obtain ⟨rfl, rfl⟩ := Prod.mk.inj hr
  have he : e = e' := he
  subst he
  have hz : ZA z w := hz
  obtain ⟨nr, nc, L, M, K, N, B, k, rfl, rfl, hL, hK⟩ := hz
  obtain ⟨hd, hLR, hKR, hL9, hK9⟩ := hv.1
  have hd : 2 ≤ nr ∧ nr ≤ 3 ∧ 2 ≤ nc ∧ nc ≤ 3 := hd
  have hLR : ∀ q, q < nr * nc → 97 ≤ L q ∧ L q ≤ 108 := hLR
  have hKR : ∀ q, q < nr * nc → K q = 46 ∨ (97 ≤ K q ∧ K q ≤ 108) := hKR
  have hmu := dm_mul hd
  have hn : nr * nc < 2147483648 := by omega
  have hl1 : nr + nc < 2147483648 := by omega
  have hl2 : 2 * (nr + nc) < 2147483648 := by omega
  exact sq_I0 h rfl (fun c => congrArg nI (hK _ (ix_cl c hn)))
theorem sq_isBarred {a b : AS} (h : SS a b) (p0 : Int32) : SQ (qI (isIx p0 (a.1.1 + a.1.2.1)) (bI (a.1.2.2.2.2.1 (cl_ p0))) a a) (qI (isIx p0 (b.1.1 + b.1.2.1)) (bI (b.1.2.2.2.2.1 (cl_ p0))) b b) := by
  obtain ⟨z, s, e, hl, bu, re⟩ := a
  obtain ⟨w, s', e', hl', bu', re'⟩ := b
  obtain ⟨hv, hw, hz, he, hsv, hh, hr⟩ := id h
  have hr : (bu, re) = (bu', re') := hr
  obtain ⟨rfl, rfl⟩ := Prod.mk.inj hr
  have he : e = e' := he
  subst he
  have hz : ZA z w := hz
  obtain ⟨nr, nc, L, M, K, N, B, k, rfl, rfl, hL, hK⟩ := hz
  obtain ⟨hd, hLR, hKR, hL9, hK9⟩ := hv.1
  have hd : 2 ≤ nr ∧ nr ≤ 3 ∧ 2 ≤ nc ∧ nc ≤ 3 := hd
  have hLR : ∀ q, q < nr * nc → 97 ≤ L q ∧ L q ≤ 108 := hLR
  have hKR : ∀ q, q < nr * nc → K q = 46 ∨ (97 ≤ K q ∧ K q ≤ 108) := hKR
  have hmu := dm_mul hd
  have hn : nr * nc < 2147483648 := by omega
  have hl1 : nr + nc < 2147483648 := by omega
  have hl2 : 2 * (nr + nc) < 2147483648 := by omega
  exact sq_I0 h rfl (fun _ => rfl)
theorem sq_sings {a b : AS} (h : SS a b) (p0 : Int32) : SQ (qI (isIx p0 (a.1.1 + a.1.2.1)) (bI (snN a.1.1 a.1.2.1 a.1.2.2.1 (cl_ p0))) a a) (qI (isIx p0 (b.1.1 + b.1.2.1)) (bI (snN b.1.1 b.1.2.1 b.1.2.2.1 (cl_ p0))) b b) := by
  obtain ⟨z, s, e, hl, bu, re⟩ := a
  obtain ⟨w, s', e', hl', bu', re'⟩ := b
  obtain ⟨hv, hw, hz, he, hsv, hh, hr⟩ := id h
  have hr : (bu, re) = (bu', re') := hr
  obtain ⟨rfl, rfl⟩ := Prod.mk.inj hr
  have he : e = e' := he
  subst he
  have hz : ZA z w := hz
  obtain ⟨nr, nc, L, M, K, N, B, k, rfl, rfl, hL, hK⟩ := hz
  obtain ⟨hd, hLR, hKR, hL9, hK9⟩ := hv.1
  have hd : 2 ≤ nr ∧ nr ≤ 3 ∧ 2 ≤ nc ∧ nc ≤ 3 := hd
  have hLR : ∀ q, q < nr * nc → 97 ≤ L q ∧ L q ≤ 108 := hLR
  have hKR : ∀ q, q < nr * nc → K q = 46 ∨ (97 ≤ K q ∧ K q ≤ 108) := hKR
  have hmu := dm_mul hd
  have hn : nr * nc < 2147483648 := by omega
  have hl1 : nr + nc < 2147483648 := by omega
  have hl2 : 2 * (nr + nc) < 2147483648 := by omega
  exact sq_I0 h rfl (fun c => congrArg bI (snN_cg hd (ix_cl c hl1) hL))
theorem sq_would {a b : AS} (h : SS a b) (p0 : Int32) : SQ (qI (isIx p0 (2 * (a.1.1 + a.1.2.1))) (nI (hm a.1.1 a.1.2.1 (tn a.1.1 a.1.2.1 (cl_ p0) a.1.2.2.1) a.1.2.2.2.1)) a a) (qI (isIx p0 (2 * (b.1.1 + b.1.2.1))) (nI (hm b.1.1 b.1.2.1 (tn b.1.1 b.1.2.1 (cl_ p0) b.1.2.2.1) b.1.2.2.2.1)) b b) := by
  obtain ⟨z, s, e, hl, bu, re⟩ := a
  obtain ⟨w, s', e', hl', bu', re'⟩ := b
  obtain ⟨hv, hw, hz, he, hsv, hh, hr⟩ := id h
  have hr : (bu, re) = (bu', re') := hr
  obtain ⟨rfl, rfl⟩ := Prod.mk.inj hr
  have he : e = e' := he
  subst he
  have hz : ZA z w := hz
  obtain ⟨nr, nc, L, M, K, N, B, k, rfl, rfl, hL, hK⟩ := hz
  obtain ⟨hd, hLR, hKR, hL9, hK9⟩ := hv.1
  have hd : 2 ≤ nr ∧ nr ≤ 3 ∧ 2 ≤ nc ∧ nc ≤ 3 := hd
  have hLR : ∀ q, q < nr * nc → 97 ≤ L q ∧ L q ≤ 108 := hLR
  have hKR : ∀ q, q < nr * nc → K q = 46 ∨ (97 ≤ K q ∧ K q ≤ 108) := hKR
  have hmu := dm_mul hd
  have hn : nr * nc < 2147483648 := by omega
  have hl1 : nr + nc < 2147483648 := by omega
  have hl2 : 2 * (nr + nc) < 2147483648 := by omega
  exact sq_I0 h rfl (fun c => congrArg nI (hm_cg (tn_cg hd (ix_cl c hl2) hL) hK))
theorem sq_best {a b : AS} (h : SS a b)  : SQ (qI (decide (bsN a.1.1 a.1.2.1 a.1.2.2.2.2.1 a.1.2.2.1 a.1.2.2.2.1 (2 * (a.1.1 + a.1.2.1)) < 2 * (a.1.1 + a.1.2.1))) (nI (bsN a.1.1 a.1.2.1 a.1.2.2.2.2.1 a.1.2.2.1 a.1.2.2.2.1 (2 * (a.1.1 + a.1.2.1)))) a a) (qI (decide (bsN b.1.1 b.1.2.1 b.1.2.2.2.2.1 b.1.2.2.1 b.1.2.2.2.1 (2 * (b.1.1 + b.1.2.1)) < 2 * (b.1.1 + b.1.2.1))) (nI (bsN b.1.1 b.1.2.1 b.1.2.2.2.2.1 b.1.2.2.1 b.1.2.2.2.1 (2 * (b.1.1 + b.1.2.1)))) b b) := by
  obtain ⟨z, s, e, hl, bu, re⟩ := a
  obtain ⟨w, s', e', hl', bu', re'⟩ := b
  obtain ⟨hv, hw, hz, he, hsv, hh, hr⟩ := id h
  have hr : (bu, re) = (bu', re') := hr
  obtain ⟨rfl, rfl⟩ := Prod.mk.inj hr
  have he : e = e' := he
  subst he
  have hz : ZA z w := hz
  obtain ⟨nr, nc, L, M, K, N, B, k, rfl, rfl, hL, hK⟩ := hz
  obtain ⟨hd, hLR, hKR, hL9, hK9⟩ := hv.1
  have hd : 2 ≤ nr ∧ nr ≤ 3 ∧ 2 ≤ nc ∧ nc ≤ 3 := hd
  have hLR : ∀ q, q < nr * nc → 97 ≤ L q ∧ L q ≤ 108 := hLR
  have hKR : ∀ q, q < nr * nc → K q = 46 ∨ (97 ≤ K q ∧ K q ≤ 108) := hKR
  have hmu := dm_mul hd
  have hn : nr * nc < 2147483648 := by omega
  have hl1 : nr + nc < 2147483648 := by omega
  have hl2 : 2 * (nr + nc) < 2147483648 := by omega
  have e9 := bsN_cg (B := B) hd hL hK _ (Nat.le_refl _); exact sq_I0 h (congrArg (fun x => decide (x < 2 * (nr + nc))) e9) (fun _ => congrArg nI e9)
theorem sq_far {a b : AS} (h : SS a b) (p0 : Int32) (p1 : Int32) : SQ (qI (isIx p0 (a.1.1 * a.1.2.1) && isIx p1 (a.1.1 * a.1.2.1)) (nI (farN a.1.1 a.1.2.1 (cl_ p0) (cl_ p1))) a a) (qI (isIx p0 (b.1.1 * b.1.2.1) && isIx p1 (b.1.1 * b.1.2.1)) (nI (farN b.1.1 b.1.2.1 (cl_ p0) (cl_ p1))) b b) := by
  obtain ⟨z, s, e, hl, bu, re⟩ := a
  obtain ⟨w, s', e', hl', bu', re'⟩ := b
  obtain ⟨hv, hw, hz, he, hsv, hh, hr⟩ := id h
  have hr : (bu, re) = (bu', re') := hr
  obtain ⟨rfl, rfl⟩ := Prod.mk.inj hr
  have he : e = e' := he
  subst he
  have hz : ZA z w := hz
  obtain ⟨nr, nc, L, M, K, N, B, k, rfl, rfl, hL, hK⟩ := hz
  obtain ⟨hd, hLR, hKR, hL9, hK9⟩ := hv.1
  have hd : 2 ≤ nr ∧ nr ≤ 3 ∧ 2 ≤ nc ∧ nc ≤ 3 := hd
  have hLR : ∀ q, q < nr * nc → 97 ≤ L q ∧ L q ≤ 108 := hLR
  have hKR : ∀ q, q < nr * nc → K q = 46 ∨ (97 ≤ K q ∧ K q ≤ 108) := hKR
  have hmu := dm_mul hd
  have hn : nr * nc < 2147483648 := by omega
  have hl1 : nr + nc < 2147483648 := by omega
  have hl2 : 2 * (nr + nc) < 2147483648 := by omega
  exact sq_I0 h rfl (fun _ => rfl)
theorem sq_where {a b : AS} (h : SS a b) (p0 : Int32) (p1 : Int32) (p2 : Int32) : SQ (qW (isIx p0 (a.1.1 * a.1.2.1) && isIx p1 (2 * (a.1.1 + a.1.2.1))) (decide (nI 0 ≤ p2 ∧ p2 ≤ nI 99)) (nI (whN a.1.1 a.1.2.1 (cl_ p0) (cl_ p1) (cl_ p2))) a) (qW (isIx p0 (b.1.1 * b.1.2.1) && isIx p1 (2 * (b.1.1 + b.1.2.1))) (decide (nI 0 ≤ p2 ∧ p2 ≤ nI 99)) (nI (whN b.1.1 b.1.2.1 (cl_ p0) (cl_ p1) (cl_ p2))) b) := by
  obtain ⟨z, s, e, hl, bu, re⟩ := a
  obtain ⟨w, s', e', hl', bu', re'⟩ := b
  obtain ⟨hv, hw, hz, he, hsv, hh, hr⟩ := id h
  have hr : (bu, re) = (bu', re') := hr
  obtain ⟨rfl, rfl⟩ := Prod.mk.inj hr
  have he : e = e' := he
  subst he
  have hz : ZA z w := hz
  obtain ⟨nr, nc, L, M, K, N, B, k, rfl, rfl, hL, hK⟩ := hz
  obtain ⟨hd, hLR, hKR, hL9, hK9⟩ := hv.1
  have hd : 2 ≤ nr ∧ nr ≤ 3 ∧ 2 ≤ nc ∧ nc ≤ 3 := hd
  have hLR : ∀ q, q < nr * nc → 97 ≤ L q ∧ L q ≤ 108 := hLR
  have hKR : ∀ q, q < nr * nc → K q = 46 ∨ (97 ≤ K q ∧ K q ≤ 108) := hKR
  have hmu := dm_mul hd
  have hn : nr * nc < 2147483648 := by omega
  have hl1 : nr + nc < 2147483648 := by omega
  have hl2 : 2 * (nr + nc) < 2147483648 := by omega
  exact sq_W h
theorem sq_ranked {a b : AS} (h : SS a b) (p0 : Int32) : SQ (qI (decide (rkN a.1.1 a.1.2.1 a.1.2.2.1 p0 < a.1.1 + a.1.2.1)) (nI (rkN a.1.1 a.1.2.1 a.1.2.2.1 p0)) a a) (qI (decide (rkN b.1.1 b.1.2.1 b.1.2.2.1 p0 < b.1.1 + b.1.2.1)) (nI (rkN b.1.1 b.1.2.1 b.1.2.2.1 p0)) b b) := by
  obtain ⟨z, s, e, hl, bu, re⟩ := a
  obtain ⟨w, s', e', hl', bu', re'⟩ := b
  obtain ⟨hv, hw, hz, he, hsv, hh, hr⟩ := id h
  have hr : (bu, re) = (bu', re') := hr
  obtain ⟨rfl, rfl⟩ := Prod.mk.inj hr
  have he : e = e' := he
  subst he
  have hz : ZA z w := hz
  obtain ⟨nr, nc, L, M, K, N, B, k, rfl, rfl, hL, hK⟩ := hz
  obtain ⟨hd, hLR, hKR, hL9, hK9⟩ := hv.1
  have hd : 2 ≤ nr ∧ nr ≤ 3 ∧ 2 ≤ nc ∧ nc ≤ 3 := hd
  have hLR : ∀ q, q < nr * nc → 97 ≤ L q ∧ L q ≤ 108 := hLR
  have hKR : ∀ q, q < nr * nc → K q = 46 ∨ (97 ≤ K q ∧ K q ≤ 108) := hKR
  have hmu := dm_mul hd
  have hn : nr * nc < 2147483648 := by omega
  have hl1 : nr + nc < 2147483648 := by omega
  have hl2 : 2 * (nr + nc) < 2147483648 := by omega
  have e9 := rkN_cg (p := p0) hd hL; exact sq_I0 h (congrArg (fun x => decide (x < nr + nc)) e9) (fun _ => congrArg nI e9)
theorem sq_lineText {a b : AS} (h : SS a b) (p0 : Int32) : SQ (qI (isIx p0 (a.1.1 + a.1.2.1)) (nI (lineX a.1.1 a.1.2.1 a.1.2.2.1 a.1.2.2.2.2.1 (cl_ p0)).length) a (liA a (lineX a.1.1 a.1.2.1 a.1.2.2.1 a.1.2.2.2.2.1 (cl_ p0)))) (qI (isIx p0 (b.1.1 + b.1.2.1)) (nI (lineX b.1.1 b.1.2.1 b.1.2.2.1 b.1.2.2.2.2.1 (cl_ p0)).length) b (liA b (lineX b.1.1 b.1.2.1 b.1.2.2.1 b.1.2.2.2.2.1 (cl_ p0)))) := by
  obtain ⟨z, s, e, hl, bu, re⟩ := a
  obtain ⟨w, s', e', hl', bu', re'⟩ := b
  obtain ⟨hv, hw, hz, he, hsv, hh, hr⟩ := id h
  have hr : (bu, re) = (bu', re') := hr
  obtain ⟨rfl, rfl⟩ := Prod.mk.inj hr
  have he : e = e' := he
  subst he
  have hz : ZA z w := hz
  obtain ⟨nr, nc, L, M, K, N, B, k, rfl, rfl, hL, hK⟩ := hz
  obtain ⟨hd, hLR, hKR, hL9, hK9⟩ := hv.1
  have hd : 2 ≤ nr ∧ nr ≤ 3 ∧ 2 ≤ nc ∧ nc ≤ 3 := hd
  have hLR : ∀ q, q < nr * nc → 97 ≤ L q ∧ L q ≤ 108 := hLR
  have hKR : ∀ q, q < nr * nc → K q = 46 ∨ (97 ≤ K q ∧ K q ≤ 108) := hKR
  have hmu := dm_mul hd
  have hn : nr * nc < 2147483648 := by omega
  have hl1 : nr + nc < 2147483648 := by omega
  have hl2 : 2 * (nr + nc) < 2147483648 := by omega
  have e9 := fun c => lineX_cg (B := B) hd (ix_cl (p := p0) c hl1) hL; exact sq_I h rfl (fun c => congrArg (fun x => nI (List.length x)) (e9 c)) (fun c => ss_li h (e9 c) (lx_b hd hw.1.2.2.2.1).1 (lx_b hd hw.1.2.2.2.1).2)
theorem sq_character {a b : AS} (h : SS a b) (p0 : Int32) : SQ (qI (isIx p0 a.2.2.2.2.2.1.length) (nI (a.2.2.2.2.2.1.getD (cl_ p0) 0)) a a) (qI (isIx p0 b.2.2.2.2.2.1.length) (nI (b.2.2.2.2.2.1.getD (cl_ p0) 0)) b b) := by
  obtain ⟨z, s, e, hl, bu, re⟩ := a
  obtain ⟨w, s', e', hl', bu', re'⟩ := b
  obtain ⟨hv, hw, hz, he, hsv, hh, hr⟩ := id h
  have hr : (bu, re) = (bu', re') := hr
  obtain ⟨rfl, rfl⟩ := Prod.mk.inj hr
  have he : e = e' := he
  subst he
  have hz : ZA z w := hz
  obtain ⟨nr, nc, L, M, K, N, B, k, rfl, rfl, hL, hK⟩ := hz
  obtain ⟨hd, hLR, hKR, hL9, hK9⟩ := hv.1
  have hd : 2 ≤ nr ∧ nr ≤ 3 ∧ 2 ≤ nc ∧ nc ≤ 3 := hd
  have hLR : ∀ q, q < nr * nc → 97 ≤ L q ∧ L q ≤ 108 := hLR
  have hKR : ∀ q, q < nr * nc → K q = 46 ∨ (97 ≤ K q ∧ K q ≤ 108) := hKR
  have hmu := dm_mul hd
  have hn : nr * nc < 2147483648 := by omega
  have hl1 : nr + nc < 2147483648 := by omega
  have hl2 : 2 * (nr + nc) < 2147483648 := by omega
  exact sq_I0 h rfl (fun _ => rfl)
theorem sq_append {a b : AS} (h : SS a b) (cv : Nat) (hcv : cv < 65536) : SQ (qI (decide (a.2.2.2.2.1.length < 60)) (nI (a.2.2.2.2.1.length + 1)) a (buA a (a.2.2.2.2.1 ++ [cv]))) (qI (decide (b.2.2.2.2.1.length < 60)) (nI (b.2.2.2.2.1.length + 1)) b (buA b (b.2.2.2.2.1 ++ [cv]))) := by
  obtain ⟨z, s, e, hl, bu, re⟩ := a
  obtain ⟨w, s', e', hl', bu', re'⟩ := b
  obtain ⟨hv, hw, hz, he, hsv, hh, hr⟩ := id h
  have hr : (bu, re) = (bu', re') := hr
  obtain ⟨rfl, rfl⟩ := Prod.mk.inj hr
  have he : e = e' := he
  subst he
  have hz : ZA z w := hz
  obtain ⟨nr, nc, L, M, K, N, B, k, rfl, rfl, hL, hK⟩ := hz
  obtain ⟨hd, hLR, hKR, hL9, hK9⟩ := hv.1
  have hd : 2 ≤ nr ∧ nr ≤ 3 ∧ 2 ≤ nc ∧ nc ≤ 3 := hd
  have hLR : ∀ q, q < nr * nc → 97 ≤ L q ∧ L q ≤ 108 := hLR
  have hKR : ∀ q, q < nr * nc → K q = 46 ∨ (97 ≤ K q ∧ K q ≤ 108) := hKR
  have hmu := dm_mul hd
  have hn : nr * nc < 2147483648 := by omega
  have hl1 : nr + nc < 2147483648 := by omega
  have hl2 : 2 * (nr + nc) < 2147483648 := by omega
  exact sq_I h rfl (fun _ => rfl) (fun c => ss_bu h (of_decide_eq_true c) hcv)
theorem sq_account {a b : AS} (h : SS a b) (wa : Int32) : SQ (qI (decide (ac1 wa = nI 0)) (acV a.1.1 a.1.2.1 a.1.2.2.2.2.1 a.1.2.2.2.2.2 a.2.2.2.2.1.length a.2.2.2.1.length wa) a a) (qI (decide (ac1 wa = nI 0)) (acV b.1.1 b.1.2.1 b.1.2.2.2.2.1 b.1.2.2.2.2.2 b.2.2.2.2.1.length b.2.2.2.1.length wa) b b) := by
  obtain ⟨z, s, e, hl, bu, re⟩ := a
  obtain ⟨w, s', e', hl', bu', re'⟩ := b
  obtain ⟨hv, hw, hz, he, hsv, hh, hr⟩ := id h
  have hr : (bu, re) = (bu', re') := hr
  obtain ⟨rfl, rfl⟩ := Prod.mk.inj hr
  have he : e = e' := he
  subst he
  have hz : ZA z w := hz
  obtain ⟨nr, nc, L, M, K, N, B, k, rfl, rfl, hL, hK⟩ := hz
  obtain ⟨hd, hLR, hKR, hL9, hK9⟩ := hv.1
  have hd : 2 ≤ nr ∧ nr ≤ 3 ∧ 2 ≤ nc ∧ nc ≤ 3 := hd
  have hLR : ∀ q, q < nr * nc → 97 ≤ L q ∧ L q ≤ 108 := hLR
  have hKR : ∀ q, q < nr * nc → K q = 46 ∨ (97 ≤ K q ∧ K q ≤ 108) := hKR
  have hmu := dm_mul hd
  have hn : nr * nc < 2147483648 := by omega
  have hl1 : nr + nc < 2147483648 := by omega
  have hl2 : 2 * (nr + nc) < 2147483648 := by omega
  have e9 : hl.length = hl'.length := hh.len; exact sq_I0 h rfl (fun _ => congrArg (fun x => acV nr nc B k bu.length x wa) e9)
theorem sq_boardOf {a b : AS} (h : SS a b) (wa : Int32) : SQ (qI (decide (bo1 wa = nI 0)) (boV a.1.1 a.1.2.1 a.1.2.2.1 a.1.2.2.2.1 a.1.2.2.2.2.1 wa) a a) (qI (decide (bo1 wa = nI 0)) (boV b.1.1 b.1.2.1 b.1.2.2.1 b.1.2.2.2.1 b.1.2.2.2.2.1 wa) b b) := by
  obtain ⟨z, s, e, hl, bu, re⟩ := a
  obtain ⟨w, s', e', hl', bu', re'⟩ := b
  obtain ⟨hv, hw, hz, he, hsv, hh, hr⟩ := id h
  have hr : (bu, re) = (bu', re') := hr
  obtain ⟨rfl, rfl⟩ := Prod.mk.inj hr
  have he : e = e' := he
  subst he
  have hz : ZA z w := hz
  obtain ⟨nr, nc, L, M, K, N, B, k, rfl, rfl, hL, hK⟩ := hz
  obtain ⟨hd, hLR, hKR, hL9, hK9⟩ := hv.1
  have hd : 2 ≤ nr ∧ nr ≤ 3 ∧ 2 ≤ nc ∧ nc ≤ 3 := hd
  have hLR : ∀ q, q < nr * nc → 97 ≤ L q ∧ L q ≤ 108 := hLR
  have hKR : ∀ q, q < nr * nc → K q = 46 ∨ (97 ≤ K q ∧ K q ≤ 108) := hKR
  have hmu := dm_mul hd
  have hn : nr * nc < 2147483648 := by omega
  have hl1 : nr + nc < 2147483648 := by omega
  have hl2 : 2 * (nr + nc) < 2147483648 := by omega
  exact sq_I0 h rfl (fun _ => boV_cg hL hK)
theorem sq_away {a b : AS} (h : SS a b)  : SQ (qI (decide (¬ awZ a.1.1 a.1.2.1 a.1.2.2.1 a.1.2.2.2.1 a.1.2.2.2.2.1 = 4)) (nI (awZ a.1.1 a.1.2.1 a.1.2.2.1 a.1.2.2.2.1 a.1.2.2.2.2.1)) a a) (qI (decide (¬ awZ b.1.1 b.1.2.1 b.1.2.2.1 b.1.2.2.2.1 b.1.2.2.2.2.1 = 4)) (nI (awZ b.1.1 b.1.2.1 b.1.2.2.1 b.1.2.2.2.1 b.1.2.2.2.2.1)) b b) := by
  obtain ⟨z, s, e, hl, bu, re⟩ := a
  obtain ⟨w, s', e', hl', bu', re'⟩ := b
  obtain ⟨hv, hw, hz, he, hsv, hh, hr⟩ := id h
  have hr : (bu, re) = (bu', re') := hr
  obtain ⟨rfl, rfl⟩ := Prod.mk.inj hr
  have he : e = e' := he
  subst he
  have hz : ZA z w := hz
  obtain ⟨nr, nc, L, M, K, N, B, k, rfl, rfl, hL, hK⟩ := hz
  obtain ⟨hd, hLR, hKR, hL9, hK9⟩ := hv.1
  have hd : 2 ≤ nr ∧ nr ≤ 3 ∧ 2 ≤ nc ∧ nc ≤ 3 := hd
  have hLR : ∀ q, q < nr * nc → 97 ≤ L q ∧ L q ≤ 108 := hLR
  have hKR : ∀ q, q < nr * nc → K q = 46 ∨ (97 ≤ K q ∧ K q ≤ 108) := hKR
  have hmu := dm_mul hd
  have hn : nr * nc < 2147483648 := by omega
  have hl1 : nr + nc < 2147483648 := by omega
  have hl2 : 2 * (nr + nc) < 2147483648 := by omega
  have e9 := awZ_cg (B := B) hd hL hK; exact sq_I0 h (congrArg (fun x => decide (¬ x = 4)) e9) (fun _ => congrArg nI e9)
theorem sq_firstTurn {a b : AS} (h : SS a b)  : SQ (qI (decide (1 ≤ awZ a.1.1 a.1.2.1 a.1.2.2.1 a.1.2.2.2.1 a.1.2.2.2.2.1 ∧ awZ a.1.1 a.1.2.1 a.1.2.2.1 a.1.2.2.2.1 a.1.2.2.2.2.1 < 4)) (nI (ftN a.1.1 a.1.2.1 a.1.2.2.2.2.1 a.1.2.2.1 a.1.2.2.2.1 (awZ a.1.1 a.1.2.1 a.1.2.2.1 a.1.2.2.2.1 a.1.2.2.2.2.1 - 1))) a a) (qI (decide (1 ≤ awZ b.1.1 b.1.2.1 b.1.2.2.1 b.1.2.2.2.1 b.1.2.2.2.2.1 ∧ awZ b.1.1 b.1.2.1 b.1.2.2.1 b.1.2.2.2.1 b.1.2.2.2.2.1 < 4)) (nI (ftN b.1.1 b.1.2.1 b.1.2.2.2.2.1 b.1.2.2.1 b.1.2.2.2.1 (awZ b.1.1 b.1.2.1 b.1.2.2.1 b.1.2.2.2.1 b.1.2.2.2.2.1 - 1))) b b) := by
  obtain ⟨z, s, e, hl, bu, re⟩ := a
  obtain ⟨w, s', e', hl', bu', re'⟩ := b
  obtain ⟨hv, hw, hz, he, hsv, hh, hr⟩ := id h
  have hr : (bu, re) = (bu', re') := hr
  obtain ⟨rfl, rfl⟩ := Prod.mk.inj hr
  have he : e = e' := he
  subst he
  have hz : ZA z w := hz
  obtain ⟨nr, nc, L, M, K, N, B, k, rfl, rfl, hL, hK⟩ := hz
  obtain ⟨hd, hLR, hKR, hL9, hK9⟩ := hv.1
  have hd : 2 ≤ nr ∧ nr ≤ 3 ∧ 2 ≤ nc ∧ nc ≤ 3 := hd
  have hLR : ∀ q, q < nr * nc → 97 ≤ L q ∧ L q ≤ 108 := hLR
  have hKR : ∀ q, q < nr * nc → K q = 46 ∨ (97 ≤ K q ∧ K q ≤ 108) := hKR
  have hmu := dm_mul hd
  have hn : nr * nc < 2147483648 := by omega
  have hl1 : nr + nc < 2147483648 := by omega
  have hl2 : 2 * (nr + nc) < 2147483648 := by omega
  have e9 := awZ_cg (B := B) hd hL hK; exact sq_I0 h (congrArg (fun x => decide (1 ≤ x ∧ x < 4)) e9) (fun _ => congrArg nI (by show ftN nr nc B L K (awZ nr nc L K B - 1) = ftN nr nc B M N (awZ nr nc M N B - 1); rw [e9]; exact ftN_cg hd hL hK))
theorem sq_refusal {a b : AS} (h : SS a b) (az : Bool) : SQ (qI (decide (¬ a.2.2.2.2.2.2.2.1 = 0)) (if az = true then a.2.2.2.2.2.2.2.2 else a.2.2.2.2.2.2.2.1) a a) (qI (decide (¬ b.2.2.2.2.2.2.2.1 = 0)) (if az = true then b.2.2.2.2.2.2.2.2 else b.2.2.2.2.2.2.2.1) b b) := by
  obtain ⟨z, s, e, hl, bu, re⟩ := a
  obtain ⟨w, s', e', hl', bu', re'⟩ := b
  obtain ⟨hv, hw, hz, he, hsv, hh, hr⟩ := id h
  have hr : (bu, re) = (bu', re') := hr
  obtain ⟨rfl, rfl⟩ := Prod.mk.inj hr
  have he : e = e' := he
  subst he
  have hz : ZA z w := hz
  obtain ⟨nr, nc, L, M, K, N, B, k, rfl, rfl, hL, hK⟩ := hz
  obtain ⟨hd, hLR, hKR, hL9, hK9⟩ := hv.1
  have hd : 2 ≤ nr ∧ nr ≤ 3 ∧ 2 ≤ nc ∧ nc ≤ 3 := hd
  have hLR : ∀ q, q < nr * nc → 97 ≤ L q ∧ L q ≤ 108 := hLR
  have hKR : ∀ q, q < nr * nc → K q = 46 ∨ (97 ≤ K q ∧ K q ≤ 108) := hKR
  have hmu := dm_mul hd
  have hn : nr * nc < 2147483648 := by omega
  have hl1 : nr + nc < 2147483648 := by omega
  have hl2 : 2 * (nr + nc) < 2147483648 := by omega
  exact sq_I0 h rfl (fun _ => rfl)
theorem sq_undo {a b : AS} (h : SS a b)  : SQ (qI (decide (0 < a.2.2.2.1.length)) (nI (a.2.2.2.1.length - 1)) a (unA a)) (qI (decide (0 < b.2.2.2.1.length)) (nI (b.2.2.2.1.length - 1)) b (unA b)) := by
  obtain ⟨z, s, e, hl, bu, re⟩ := a
  obtain ⟨w, s', e', hl', bu', re'⟩ := b
  obtain ⟨hv, hw, hz, he, hsv, hh, hr⟩ := id h
  have hr : (bu, re) = (bu', re') := hr
  obtain ⟨rfl, rfl⟩ := Prod.mk.inj hr
  have he : e = e' := he
  subst he
  have hz : ZA z w := hz
  obtain ⟨nr, nc, L, M, K, N, B, k, rfl, rfl, hL, hK⟩ := hz
  obtain ⟨hd, hLR, hKR, hL9, hK9⟩ := hv.1
  have hd : 2 ≤ nr ∧ nr ≤ 3 ∧ 2 ≤ nc ∧ nc ≤ 3 := hd
  have hLR : ∀ q, q < nr * nc → 97 ≤ L q ∧ L q ≤ 108 := hLR
  have hKR : ∀ q, q < nr * nc → K q = 46 ∨ (97 ≤ K q ∧ K q ≤ 108) := hKR
  have hmu := dm_mul hd
  have hn : nr * nc < 2147483648 := by omega
  have hl1 : nr + nc < 2147483648 := by omega
  have hl2 : 2 * (nr + nc) < 2147483648 := by omega
  have e9 : hl.length = hl'.length := hh.len; exact sq_I h (congrArg (fun x => decide (0 < x)) e9) (fun _ => congrArg (fun x => nI (x - 1)) e9) (fun _ => ss_un h)
theorem hm_ZA {z w : ZT} (h : ZA z w) : hm z.1 z.2.1 z.2.2.1 z.2.2.2.1 = hm w.1 w.2.1 w.2.2.1 w.2.2.2.1 := by
  obtain ⟨nr, nc, L, M, K, N, B, k, rfl, rfl, hL, hK⟩ := h
  exact hm_cg hL hK
theorem sq_restore {a b : AS} (h : SS a b)  : SQ (qI (a.2.2.1) (nI (hm a.2.1.1 a.2.1.2.1 a.2.1.2.2.1 a.2.1.2.2.2.1)) a (rsA a)) (qI (b.2.2.1) (nI (hm b.2.1.1 b.2.1.2.1 b.2.1.2.2.1 b.2.1.2.2.2.1)) b (rsA b)) := by
  obtain ⟨z, s, e, hl, bu, re⟩ := a
  obtain ⟨w, s', e', hl', bu', re'⟩ := b
  obtain ⟨hv, hw, hz, he, hsv, hh, hr⟩ := id h
  have hr : (bu, re) = (bu', re') := hr
  obtain ⟨rfl, rfl⟩ := Prod.mk.inj hr
  have he : e = e' := he
  subst he
  have hz : ZA z w := hz
  obtain ⟨nr, nc, L, M, K, N, B, k, rfl, rfl, hL, hK⟩ := hz
  obtain ⟨hd, hLR, hKR, hL9, hK9⟩ := hv.1
  have hd : 2 ≤ nr ∧ nr ≤ 3 ∧ 2 ≤ nc ∧ nc ≤ 3 := hd
  have hLR : ∀ q, q < nr * nc → 97 ≤ L q ∧ L q ≤ 108 := hLR
  have hKR : ∀ q, q < nr * nc → K q = 46 ∨ (97 ≤ K q ∧ K q ≤ 108) := hKR
  have hmu := dm_mul hd
  have hn : nr * nc < 2147483648 := by omega
  have hl1 : nr + nc < 2147483648 := by omega
  have hl2 : 2 * (nr + nc) < 2147483648 := by omega
  exact sq_I h rfl (fun c => congrArg nI (hm_ZA (hsv c))) (fun c => ss_rs h c)
theorem sq_meanFar {a b : AS} (h : SS a b)  : SD (qD (decide (¬ (cn (fkN (a.1.1 * a.1.2.1) a.1.2.2.1 a.1.2.2.2.1) (a.1.1 * a.1.2.1)) = 0)) (FP.ddiv (FP.i2d (nI (sm (faN a.1.1 a.1.2.1 a.1.2.2.1 a.1.2.2.2.1) (a.1.1 * a.1.2.1)))) (FP.i2d (nI (cn (fkN (a.1.1 * a.1.2.1) a.1.2.2.1 a.1.2.2.2.1) (a.1.1 * a.1.2.1))))) a) (qD (decide (¬ (cn (fkN (b.1.1 * b.1.2.1) b.1.2.2.1 b.1.2.2.2.1) (b.1.1 * b.1.2.1)) = 0)) (FP.ddiv (FP.i2d (nI (sm (faN b.1.1 b.1.2.1 b.1.2.2.1 b.1.2.2.2.1) (b.1.1 * b.1.2.1)))) (FP.i2d (nI (cn (fkN (b.1.1 * b.1.2.1) b.1.2.2.1 b.1.2.2.2.1) (b.1.1 * b.1.2.1))))) b) := by
  obtain ⟨z, s, e, hl, bu, re⟩ := a
  obtain ⟨w, s', e', hl', bu', re'⟩ := b
  obtain ⟨hv, hw, hz, he, hsv, hh, hr⟩ := id h
  have hr : (bu, re) = (bu', re') := hr
  obtain ⟨rfl, rfl⟩ := Prod.mk.inj hr
  have he : e = e' := he
  subst he
  have hz : ZA z w := hz
  obtain ⟨nr, nc, L, M, K, N, B, k, rfl, rfl, hL, hK⟩ := hz
  obtain ⟨hd, hLR, hKR, hL9, hK9⟩ := hv.1
  have hd : 2 ≤ nr ∧ nr ≤ 3 ∧ 2 ≤ nc ∧ nc ≤ 3 := hd
  have hLR : ∀ q, q < nr * nc → 97 ≤ L q ∧ L q ≤ 108 := hLR
  have hKR : ∀ q, q < nr * nc → K q = 46 ∨ (97 ≤ K q ∧ K q ≤ 108) := hKR
  have hmu := dm_mul hd
  have hn : nr * nc < 2147483648 := by omega
  have hl1 : nr + nc < 2147483648 := by omega
  have hl2 : 2 * (nr + nc) < 2147483648 := by omega
  have e9 : cn (fkN (nr * nc) L K) (nr * nc) = cn (fkN (nr * nc) M N) (nr * nc) := cn_congr (fun k hk => fkN_cg hk hL hK); have e8 : sm (faN nr nc L K) (nr * nc) = sm (faN nr nc M N) (nr * nc) := sm_congr (fun k hk => faN_cg hk hL hK); exact sd_D h (congrArg (fun x => decide (¬ x = 0)) e9) (fun _ => by show FP.ddiv (FP.i2d (nI (sm (faN nr nc L K) (nr * nc)))) (FP.i2d (nI (cn (fkN (nr * nc) L K) (nr * nc)))) = _; rw [e8, e9])
theorem sq_board {a b : AS} (h : SS a b) (p0 : Int32) (p1 : Int32) : SQ (qO a (oBoard b9 a.1 p0 p1)) (qO b (oBoard (fun _ => 97) b.1 p0 p1)) := sq_O h (ok_board _ _ _ _) (ok_board _ _ _ _) (oz_board h.2.2.1 _ _) (vZ_board b9_lt h.1.1 _ _) (vZ_board (fun _ => by decide) h.2.1.1 _ _) (wy_board _ _ _ _) (wy_board _ _ _ _)
theorem sq_scramble {a b : AS} (h : SS a b) (p0 : Int32) (p1 : Int32) : SQ (qO a (oScr a.1 p0 p1)) (qO b (oScr b.1 p0 p1)) := sq_O h (ok_scr _ _ _) (ok_scr _ _ _) (oz_scr h.1.1 h.2.2.1 _ _) (vZ_scr h.1.1 _ _) (vZ_scr h.2.1.1 _ _) (wy_scr _ _ _) (wy_scr _ _ _)
theorem sq_turn {a b : AS} (h : SS a b) (p0 : Int32) : SQ (qO a (oTurn a.1 p0)) (qO b (oTurn b.1 p0)) := sq_O h (ok_turn _ _) (ok_turn _ _) (oz_turn h.1.1 h.2.2.1 _) (vZ_turn h.1.1 _) (vZ_turn h.2.1.1 _) (wy_turn _ _) (wy_turn _ _)
theorem sq_swap {a b : AS} (h : SS a b) (p0 : Int32) (p1 : Int32) : SQ (qO a (oSwap a.1 p0 p1)) (qO b (oSwap b.1 p0 p1)) := sq_O h (ok_swap _ _ _) (ok_swap _ _ _) (oz_swap h.1.1 h.2.2.1 _ _) (vZ_swap h.1.1 _ _) (vZ_swap h.2.1.1 _ _) (wy_swap _ _ _) (wy_swap _ _ _)
theorem sq_step {a b : AS} (h : SS a b)  : SQ (qO a (oStep a.1)) (qO b (oStep b.1)) := sq_O h (ok_step _) (ok_step _) (oz_step h.1.1 h.2.2.1) (vZ_step h.1.1) (vZ_step h.2.1.1) (wy_step _) (wy_step _)
theorem sq_put {a b : AS} (h : SS a b) (p0 : Int32) (p1 : Int32) : SQ (qO a (oPut a.1 p0 p1)) (qO b (oPut b.1 p0 p1)) := sq_O h (ok_put _ _ _) (ok_put _ _ _) (oz_put h.1.1 h.2.2.1 _ _) (vZ_put h.1.1 _ _) (vZ_put h.2.1.1 _ _) (wy_put _ _ _) (wy_put _ _ _)
theorem sq_goal {a b : AS} (h : SS a b) (p0 : Int32) (p1 : Int32) : SQ (qO a (oGoal a.1 p0 p1)) (qO b (oGoal b.1 p0 p1)) := sq_O h (ok_goal _ _ _) (ok_goal _ _ _) (oz_goal h.1.1 h.2.2.1 _ _) (vZ_goal h.1.1 _ _) (vZ_goal h.2.1.1 _ _) (wy_goal _ _ _) (wy_goal _ _ _)
theorem sq_bar {a b : AS} (h : SS a b) (p0 : Int32) : SQ (qO a (oBar a.1 p0)) (qO b (oBar b.1 p0)) := sq_O h (ok_bar _ _) (ok_bar _ _) (oz_bar h.2.2.1 _) (vZ_bar h.1.1 _) (vZ_bar h.2.1.1 _) (wy_bar _ _) (wy_bar _ _)
theorem se_home {a b : AS} (h : SS a b) : hm a.1.1 a.1.2.1 a.1.2.2.1 a.1.2.2.2.1 = hm b.1.1 b.1.2.1 b.1.2.2.1 b.1.2.2.2.1 := by
  obtain ⟨z, s, e, hl, bu, re⟩ := a
  obtain ⟨w, s', e', hl', bu', re'⟩ := b
  obtain ⟨hv, hw, hz, he, hsv, hh, hr⟩ := id h
  have hr : (bu, re) = (bu', re') := hr
  obtain ⟨rfl, rfl⟩ := Prod.mk.inj hr
  have he : e = e' := he
  subst he
  have hz : ZA z w := hz
  obtain ⟨nr, nc, L, M, K, N, B, k, rfl, rfl, hL, hK⟩ := hz
  obtain ⟨hd, hLR, hKR, hL9, hK9⟩ := hv.1
  have hd : 2 ≤ nr ∧ nr ≤ 3 ∧ 2 ≤ nc ∧ nc ≤ 3 := hd
  have hLR : ∀ q, q < nr * nc → 97 ≤ L q ∧ L q ≤ 108 := hLR
  have hKR : ∀ q, q < nr * nc → K q = 46 ∨ (97 ≤ K q ∧ K q ≤ 108) := hKR
  have hmu := dm_mul hd
  have hn : nr * nc < 2147483648 := by omega
  have hl1 : nr + nc < 2147483648 := by omega
  have hl2 : 2 * (nr + nc) < 2147483648 := by omega
  exact hm_cg hL hK
theorem se_isOut {a b : AS} (h : SS a b) : otN a.1.1 a.1.2.1 a.1.2.2.1 a.1.2.2.2.1 = otN b.1.1 b.1.2.1 b.1.2.2.1 b.1.2.2.2.1 := by
  obtain ⟨z, s, e, hl, bu, re⟩ := a
  obtain ⟨w, s', e', hl', bu', re'⟩ := b
  obtain ⟨hv, hw, hz, he, hsv, hh, hr⟩ := id h
  have hr : (bu, re) = (bu', re') := hr
  obtain ⟨rfl, rfl⟩ := Prod.mk.inj hr
  have he : e = e' := he
  subst he
  have hz : ZA z w := hz
  obtain ⟨nr, nc, L, M, K, N, B, k, rfl, rfl, hL, hK⟩ := hz
  obtain ⟨hd, hLR, hKR, hL9, hK9⟩ := hv.1
  have hd : 2 ≤ nr ∧ nr ≤ 3 ∧ 2 ≤ nc ∧ nc ≤ 3 := hd
  have hLR : ∀ q, q < nr * nc → 97 ≤ L q ∧ L q ≤ 108 := hLR
  have hKR : ∀ q, q < nr * nc → K q = 46 ∨ (97 ≤ K q ∧ K q ≤ 108) := hKR
  have hmu := dm_mul hd
  have hn : nr * nc < 2147483648 := by omega
  have hl1 : nr + nc < 2147483648 := by omega
  have hl2 : 2 * (nr + nc) < 2147483648 := by omega
  exact otN_cg hd hLR hKR hL hK
theorem se_singing {a b : AS} (h : SS a b) : cn (snN a.1.1 a.1.2.1 a.1.2.2.1) (a.1.1 + a.1.2.1) = cn (snN b.1.1 b.1.2.1 b.1.2.2.1) (b.1.1 + b.1.2.1) := by
  obtain ⟨z, s, e, hl, bu, re⟩ := a
  obtain ⟨w, s', e', hl', bu', re'⟩ := b
  obtain ⟨hv, hw, hz, he, hsv, hh, hr⟩ := id h
  have hr : (bu, re) = (bu', re') := hr
  obtain ⟨rfl, rfl⟩ := Prod.mk.inj hr
  have he : e = e' := he
  subst he
  have hz : ZA z w := hz
  obtain ⟨nr, nc, L, M, K, N, B, k, rfl, rfl, hL, hK⟩ := hz
  obtain ⟨hd, hLR, hKR, hL9, hK9⟩ := hv.1
  have hd : 2 ≤ nr ∧ nr ≤ 3 ∧ 2 ≤ nc ∧ nc ≤ 3 := hd
  have hLR : ∀ q, q < nr * nc → 97 ≤ L q ∧ L q ≤ 108 := hLR
  have hKR : ∀ q, q < nr * nc → K q = 46 ∨ (97 ≤ K q ∧ K q ≤ 108) := hKR
  have hmu := dm_mul hd
  have hn : nr * nc < 2147483648 := by omega
  have hl1 : nr + nc < 2147483648 := by omega
  have hl2 : 2 * (nr + nc) < 2147483648 := by omega
  exact cn_congr (fun k hk => snN_cg hd hk hL)
theorem se_errorPosition {a b : AS} (h : SS a b) : a.2.2.2.2.2.2.1 = b.2.2.2.2.2.2.1 := by
  obtain ⟨z, s, e, hl, bu, re⟩ := a
  obtain ⟨w, s', e', hl', bu', re'⟩ := b
  obtain ⟨hv, hw, hz, he, hsv, hh, hr⟩ := id h
  have hr : (bu, re) = (bu', re') := hr
  obtain ⟨rfl, rfl⟩ := Prod.mk.inj hr
  have he : e = e' := he
  subst he
  have hz : ZA z w := hz
  obtain ⟨nr, nc, L, M, K, N, B, k, rfl, rfl, hL, hK⟩ := hz
  obtain ⟨hd, hLR, hKR, hL9, hK9⟩ := hv.1
  have hd : 2 ≤ nr ∧ nr ≤ 3 ∧ 2 ≤ nc ∧ nc ≤ 3 := hd
  have hLR : ∀ q, q < nr * nc → 97 ≤ L q ∧ L q ≤ 108 := hLR
  have hKR : ∀ q, q < nr * nc → K q = 46 ∨ (97 ≤ K q ∧ K q ≤ 108) := hKR
  have hmu := dm_mul hd
  have hn : nr * nc < 2147483648 := by omega
  have hl1 : nr + nc < 2147483648 := by omega
  have hl2 : 2 * (nr + nc) < 2147483648 := by omega
  rfl
theorem se_n {a b : AS} (h : SS a b) : a.1.1 * a.1.2.1 = b.1.1 * b.1.2.1 := by
  obtain ⟨z, s, e, hl, bu, re⟩ := a
  obtain ⟨w, s', e', hl', bu', re'⟩ := b
  obtain ⟨hv, hw, hz, he, hsv, hh, hr⟩ := id h
  have hr : (bu, re) = (bu', re') := hr
  obtain ⟨rfl, rfl⟩ := Prod.mk.inj hr
  have he : e = e' := he
  subst he
  have hz : ZA z w := hz
  obtain ⟨nr, nc, L, M, K, N, B, k, rfl, rfl, hL, hK⟩ := hz
  obtain ⟨hd, hLR, hKR, hL9, hK9⟩ := hv.1
  have hd : 2 ≤ nr ∧ nr ≤ 3 ∧ 2 ≤ nc ∧ nc ≤ 3 := hd
  have hLR : ∀ q, q < nr * nc → 97 ≤ L q ∧ L q ≤ 108 := hLR
  have hKR : ∀ q, q < nr * nc → K q = 46 ∨ (97 ≤ K q ∧ K q ≤ 108) := hKR
  have hmu := dm_mul hd
  have hn : nr * nc < 2147483648 := by omega
  have hl1 : nr + nc < 2147483648 := by omega
  have hl2 : 2 * (nr + nc) < 2147483648 := by omega
  rfl
theorem se_text {a b : AS} (h : SS a b) : (txN a.1.2.1 a.1.2.2.1 (a.1.1 * a.1.2.1)) = (txN b.1.2.1 b.1.2.2.1 (b.1.1 * b.1.2.1)) := by
  obtain ⟨z, s, e, hl, bu, re⟩ := a
  obtain ⟨w, s', e', hl', bu', re'⟩ := b
  obtain ⟨hv, hw, hz, he, hsv, hh, hr⟩ := id h
  have hr : (bu, re) = (bu', re') := hr
  obtain ⟨rfl, rfl⟩ := Prod.mk.inj hr
  have he : e = e' := he
  subst he
  have hz : ZA z w := hz
  obtain ⟨nr, nc, L, M, K, N, B, k, rfl, rfl, hL, hK⟩ := hz
  obtain ⟨hd, hLR, hKR, hL9, hK9⟩ := hv.1
  have hd : 2 ≤ nr ∧ nr ≤ 3 ∧ 2 ≤ nc ∧ nc ≤ 3 := hd
  have hLR : ∀ q, q < nr * nc → 97 ≤ L q ∧ L q ≤ 108 := hLR
  have hKR : ∀ q, q < nr * nc → K q = 46 ∨ (97 ≤ K q ∧ K q ≤ 108) := hKR
  have hmu := dm_mul hd
  have hn : nr * nc < 2147483648 := by omega
  have hl1 : nr + nc < 2147483648 := by omega
  have hl2 : 2 * (nr + nc) < 2147483648 := by omega
  exact txN_cg hL _ (Nat.le_refl _)
theorem ss_text {a b : AS} (h : SS a b) : SS (liA a (txN a.1.2.1 a.1.2.2.1 (a.1.1 * a.1.2.1))) (liA b (txN b.1.2.1 b.1.2.2.1 (b.1.1 * b.1.2.1))) := ss_li h (se_text h) (by have := dm_mul h.2.1.1.1; have := txN_len b.1.2.1 b.1.2.2.1 (b.1.1 * b.1.2.1); omega) (tx_b h.2.1.1.2.2.2.1 _)
theorem se_goalText {a b : AS} (h : SS a b) : (txN a.1.2.1 a.1.2.2.2.1 (a.1.1 * a.1.2.1)) = (txN b.1.2.1 b.1.2.2.2.1 (b.1.1 * b.1.2.1)) := by
  obtain ⟨z, s, e, hl, bu, re⟩ := a
  obtain ⟨w, s', e', hl', bu', re'⟩ := b
  obtain ⟨hv, hw, hz, he, hsv, hh, hr⟩ := id h
  have hr : (bu, re) = (bu', re') := hr
  obtain ⟨rfl, rfl⟩ := Prod.mk.inj hr
  have he : e = e' := he
  subst he
  have hz : ZA z w := hz
  obtain ⟨nr, nc, L, M, K, N, B, k, rfl, rfl, hL, hK⟩ := hz
  obtain ⟨hd, hLR, hKR, hL9, hK9⟩ := hv.1
  have hd : 2 ≤ nr ∧ nr ≤ 3 ∧ 2 ≤ nc ∧ nc ≤ 3 := hd
  have hLR : ∀ q, q < nr * nc → 97 ≤ L q ∧ L q ≤ 108 := hLR
  have hKR : ∀ q, q < nr * nc → K q = 46 ∨ (97 ≤ K q ∧ K q ≤ 108) := hKR
  have hmu := dm_mul hd
  have hn : nr * nc < 2147483648 := by omega
  have hl1 : nr + nc < 2147483648 := by omega
  have hl2 : 2 * (nr + nc) < 2147483648 := by omega
  exact txN_cg hK _ (Nat.le_refl _)
theorem ss_goalText {a b : AS} (h : SS a b) : SS (liA a (txN a.1.2.1 a.1.2.2.2.1 (a.1.1 * a.1.2.1))) (liA b (txN b.1.2.1 b.1.2.2.2.1 (b.1.1 * b.1.2.1))) := ss_li h (se_goalText h) (by have := dm_mul h.2.1.1.1; have := txN_len b.1.2.1 b.1.2.2.2.1 (b.1.1 * b.1.2.1); omega) (tx_b h.2.1.1.2.2.2.2 _)
