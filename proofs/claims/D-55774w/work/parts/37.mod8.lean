/-! ===== reading texts ===== -/
def hrI (t : Nat → Nat) (n i : Nat) : Int32 := if i < n then nI (t i) else -1
def isDg (t : Nat → Nat) (n i : Nat) : Bool := decide (i < n ∧ 48 ≤ t i ∧ t i ≤ 57)
/-- up to m digits from i on -/
def dgs (t : Nat → Nat) (n : Nat) : Nat → Nat → Nat → Nat × Nat
  | 0, i, v => (v, i)
  | m + 1, i, v => if isDg t n i = true then dgs t n m (i + 1) (10 * v + t i - 48) else (v, i)
/-- a number: its value, whether it is wrong, where it ends -/
def fgS (t : Nat → Nat) (n m : Nat) (w : Bool) (i : Nat) : Nat × Bool × Nat := if w = true then (0, true, i) else if isDg t n i = true then ((dgs t n m i 0).1, false, (dgs t n m i 0).2) else (0, true, i)
def ndW (t : Nat → Nat) (n : Nat) (c : Int32) (w : Bool) (i : Nat) : Bool := w || !decide (hrI t n i = c)
def ndS (t : Nat → Nat) (n : Nat) (c : Int32) (w : Bool) (i : Nat) : Nat := if ndW t n c w i = true then i else i + 1
def sgW (t : Nat → Nat) (n : Nat) (fr : Bool) (w : Bool) (i : Nat) : Bool := w || (!decide (nI 97 ≤ hrI t n i ∧ hrI t n i ≤ nI 108) && !(fr && decide (hrI t n i = nI 46)))
def sgS (t : Nat → Nat) (n : Nat) (fr : Bool) (w : Bool) (i : Nat) : Nat := if sgW t n fr w i = true then i else i + 1
abbrev ORD : Type := Int32 × Int32 × Int32
/-- one order from i on: wrong or not, where it ends, the order (its second number 0 where it has none) -/
def ordP (t : Nat → Nat) (n i : Nat) : Bool × Nat × ORD :=
  if hrI t n i = nI 98 ∨ hrI t n i = nI 115 then
    ((fgS t n 1 (fgS t n 1 false (i + 1)).2.1 (fgS t n 1 false (i + 1)).2.2).2.1, (fgS t n 1 (fgS t n 1 false (i + 1)).2.1 (fgS t n 1 false (i + 1)).2.2).2.2, hrI t n i, nI (fgS t n 1 false (i + 1)).1, nI (fgS t n 1 (fgS t n 1 false (i + 1)).2.1 (fgS t n 1 false (i + 1)).2.2).1)
  else if hrI t n i = nI 112 ∨ hrI t n i = nI 103 then
    (sgW t n (decide (hrI t n i = nI 103)) (fgS t n 1 false (i + 1)).2.1 (fgS t n 1 false (i + 1)).2.2, sgS t n (decide (hrI t n i = nI 103)) (fgS t n 1 false (i + 1)).2.1 (fgS t n 1 false (i + 1)).2.2, hrI t n i, nI (fgS t n 1 false (i + 1)).1, hrI t n (fgS t n 1 false (i + 1)).2.2)
  else if hrI t n i = nI 116 then ((fgS t n 3 false (i + 1)).2.1, (fgS t n 3 false (i + 1)).2.2, hrI t n i, nI (fgS t n 3 false (i + 1)).1, 0)
  else if hrI t n i = nI 120 then ((fgS t n 1 false (i + 1)).2.1, (fgS t n 1 false (i + 1)).2.2, hrI t n i, nI (fgS t n 1 false (i + 1)).1, 0)
  else if hrI t n i = nI 114 then
    ((fgS t n 1 (ndW t n (nI 47) (fgS t n 3 false (i + 1)).2.1 (fgS t n 3 false (i + 1)).2.2) (ndS t n (nI 47) (fgS t n 3 false (i + 1)).2.1 (fgS t n 3 false (i + 1)).2.2)).2.1, (fgS t n 1 (ndW t n (nI 47) (fgS t n 3 false (i + 1)).2.1 (fgS t n 3 false (i + 1)).2.2) (ndS t n (nI 47) (fgS t n 3 false (i + 1)).2.1 (fgS t n 3 false (i + 1)).2.2)).2.2, hrI t n i, nI (fgS t n 3 false (i + 1)).1, nI (fgS t n 1 (ndW t n (nI 47) (fgS t n 3 false (i + 1)).2.1 (fgS t n 3 false (i + 1)).2.2) (ndS t n (nI 47) (fgS t n 3 false (i + 1)).2.1 (fgS t n 3 false (i + 1)).2.2)).1)
  else (true, i, hrI t n i, 0, 0)
/-- the whole text -/
def rdP (t : Nat → Nat) (n : Nat) : Nat → Nat → Bool × Nat × List ORD
  | 0, i => (true, i, [])
  | f + 1, i => if (ordP t n i).1 = true then (true, (ordP t n i).2.1, [(ordP t n i).2.2]) else if hrI t n (ordP t n i).2.1 = nI 59 then ((rdP t n f ((ordP t n i).2.1 + 1)).1, (rdP t n f ((ordP t n i).2.1 + 1)).2.1, (ordP t n i).2.2 :: (rdP t n f ((ordP t n i).2.1 + 1)).2.2) else (decide ((ordP t n i).2.1 < n), (ordP t n i).2.1, [(ordP t n i).2.2])
theorem hrI_ne1 {t : Nat → Nat} {n i : Nat} {c : Nat} (hc : c < 2147483648) (h : hrI t n i = nI c) : i < n ∧ (t i < 2147483648 → t i = c) := by
  unfold hrI at h
  by_cases hi : i < n
  · rw [if_pos hi] at h; exact ⟨hi, fun ht => (nI_eq ht hc).mp h⟩
  · rw [if_neg hi] at h; exact absurd h.symm (nI_ne1 hc)
theorem hrI_lt {t : Nat → Nat} {n i : Nat} {c : Nat} (h : hrI t n i = nI c) (hc : c < 2147483648) : i < n := (hrI_ne1 hc h).1
theorem isDg_in {t : Nat → Nat} {n i : Nat} (ht : ∀ j, j < n → t j < 65536) : decide (nI 48 ≤ hrI t n i ∧ hrI t n i ≤ nI 57) = isDg t n i := by
  unfold isDg hrI
  rw [decide_eq_decide]
  by_cases hi : i < n
  · have h1 := ht i hi
    rw [if_pos hi, nI_leI (by omega) (by omega), nI_leI (by omega) (by omega)]
    exact ⟨fun h => ⟨hi, h.1, h.2⟩, fun h => ⟨h.2.1, h.2.2⟩⟩
  · rw [if_neg hi]
    exact ⟨fun h => absurd h.1 (by decide), fun h => absurd h.1 hi⟩
theorem dgs_le {t : Nat → Nat} {n : Nat} : ∀ (m i v : Nat), i ≤ (dgs t n m i v).2 ∧ (i ≤ n → (dgs t n m i v).2 ≤ n)
  | 0, i, v => ⟨Nat.le_refl i, fun h => h⟩
  | m + 1, i, v => by
    rw [dgs]
    by_cases h : isDg t n i = true
    · rw [if_pos h]
      have ih := dgs_le (t := t) (n := n) m (i + 1) (10 * v + t i - 48)
      have h1 := (of_decide_eq_true h).1
      exact ⟨by omega, fun _ => ih.2 (by omega)⟩
    · rw [if_neg h]; exact ⟨Nat.le_refl i, fun h => h⟩
theorem dgs_v {t : Nat → Nat} {n : Nat} : ∀ (m i v : Nat), (dgs t n m i v).1 < (v + 1) * 10 ^ m
  | 0, i, v => by simp [dgs]
  | m + 1, i, v => by
    rw [dgs]
    by_cases h : isDg t n i = true
    · rw [if_pos h]
      have ih := dgs_v (t := t) (n := n) m (i + 1) (10 * v + t i - 48)
      have h1 := (of_decide_eq_true h).2
      refine Nat.lt_of_lt_of_le ih ?_
      rw [Nat.pow_succ, Nat.mul_comm (10 ^ m) 10, ← Nat.mul_assoc]
      exact Nat.mul_le_mul_right _ (by omega)
    · rw [if_neg h]
      have : 0 < 10 ^ (m + 1) := Nat.pow_pos (by omega)
      calc v < (v + 1) * 1 := by omega
        _ ≤ (v + 1) * 10 ^ (m + 1) := Nat.mul_le_mul_left _ this
theorem fgS_le {t : Nat → Nat} {n m i : Nat} {w : Bool} (hi : i ≤ n) : i ≤ (fgS t n m w i).2.2 ∧ (fgS t n m w i).2.2 ≤ n := by
  unfold fgS
  split
  · exact ⟨Nat.le_refl i, hi⟩
  · split
    · exact ⟨(dgs_le m i 0).1, (dgs_le m i 0).2 hi⟩
    · exact ⟨Nat.le_refl i, hi⟩
theorem fgS_v {t : Nat → Nat} {n m i : Nat} {w : Bool} : (fgS t n m w i).1 < 10 ^ m := by
  have h0 : 0 < 10 ^ m := Nat.pow_pos (by omega)
  unfold fgS
  split
  · exact h0
  · split
    · have := dgs_v (t := t) (n := n) m i 0; simpa using this
    · exact h0
theorem ndS_le {t : Nat → Nat} {n i : Nat} {c : Nat} {w : Bool} (hc : c < 2147483648) (hi : i ≤ n) : i ≤ ndS t n (nI c) w i ∧ ndS t n (nI c) w i ≤ n := by
  unfold ndS
  by_cases h : ndW t n (nI c) w i = true
  · rw [if_pos h]; exact ⟨Nat.le_refl i, hi⟩
  · rw [if_neg h]
    have h2 : hrI t n i = nI c := by
      unfold ndW at h
      by_cases h3 : hrI t n i = nI c
      · exact h3
      · exact absurd (by rw [decide_eq_false h3, Bool.not_false, Bool.or_true]) h
    have := (hrI_ne1 hc h2).1
    omega
theorem sgS_le {t : Nat → Nat} {n i : Nat} {fr w : Bool} (hi : i ≤ n) : i ≤ sgS t n fr w i ∧ sgS t n fr w i ≤ n := by
  unfold sgS
  by_cases h : sgW t n fr w i = true
  · rw [if_pos h]; exact ⟨Nat.le_refl i, hi⟩
  · rw [if_neg h]
    refine ⟨by omega, ?_⟩
    rcases Nat.lt_or_ge i n with h2 | h2
    · omega
    · exfalso
      apply h
      have e : hrI t n i = -1 := if_neg (by omega)
      unfold sgW
      rw [e, show decide (nI 97 ≤ (-1 : Int32) ∧ (-1 : Int32) ≤ nI 108) = false from by decide, show decide ((-1 : Int32) = nI 46) = false from by decide]
      cases w <;> cases fr <;> rfl
theorem ordP_le {t : Nat → Nat} {n i : Nat} (hi : i ≤ n) : (ordP t n i).2.1 ≤ n ∧ ((ordP t n i).1 = false → i + 1 ≤ (ordP t n i).2.1) := by
  have hlt : ∀ c, c < 2147483648 → hrI t n i = nI c → i + 1 ≤ n := fun c hc h => (hrI_ne1 hc h).1
  unfold ordP
  by_cases h1 : hrI t n i = nI 98 ∨ hrI t n i = nI 115
  · rw [if_pos h1]
    have hn : i + 1 ≤ n := h1.elim (hlt 98 (by decide)) (hlt 115 (by decide))
    have g1 := fgS_le (t := t) (m := 1) (w := false) hn
    have g2 := fgS_le (t := t) (m := 1) (w := (fgS t n 1 false (i + 1)).2.1) g1.2
    exact ⟨g2.2, fun _ => Nat.le_trans g1.1 g2.1⟩
  · rw [if_neg h1]
    by_cases h2 : hrI t n i = nI 112 ∨ hrI t n i = nI 103
    · rw [if_pos h2]
      have hn : i + 1 ≤ n := h2.elim (hlt 112 (by decide)) (hlt 103 (by decide))
      have g1 := fgS_le (t := t) (m := 1) (w := false) hn
      have g2 := sgS_le (t := t) (fr := decide (hrI t n i = nI 103)) (w := (fgS t n 1 false (i + 1)).2.1) g1.2
      exact ⟨g2.2, fun _ => Nat.le_trans g1.1 g2.1⟩
    · rw [if_neg h2]
      by_cases h3 : hrI t n i = nI 116
      · rw [if_pos h3]
        have g1 := fgS_le (t := t) (m := 3) (w := false) (hlt 116 (by decide) h3)
        exact ⟨g1.2, fun _ => g1.1⟩
      · rw [if_neg h3]
        by_cases h4 : hrI t n i = nI 120
        · rw [if_pos h4]
          have g1 := fgS_le (t := t) (m := 1) (w := false) (hlt 120 (by decide) h4)
          exact ⟨g1.2, fun _ => g1.1⟩
        · rw [if_neg h4]
          by_cases h5 : hrI t n i = nI 114
          · rw [if_pos h5]
            have g1 := fgS_le (t := t) (m := 3) (w := false) (hlt 114 (by decide) h5)
            have g2 := ndS_le (t := t) (c := 47) (w := (fgS t n 3 false (i + 1)).2.1) (by decide) g1.2
            have g3 := fgS_le (t := t) (m := 1) (w := ndW t n (nI 47) (fgS t n 3 false (i + 1)).2.1 (fgS t n 3 false (i + 1)).2.2) g2.2
            exact ⟨g3.2, fun _ => Nat.le_trans g1.1 (Nat.le_trans g2.1 g3.1)⟩
          · rw [if_neg h5]; exact ⟨hi, fun h => absurd (show true = false from h) (by decide)⟩
/-- what the numbers hold of an order -/
def HoldO (td : Nat → Int32) (i : Nat) (o : ORD) : Prop := td (3 * i) = o.1 ∧ td (3 * i + 1) = o.2.1 ∧ (o.1 = nI 116 ∨ o.1 = nI 120 ∨ td (3 * i + 2) = o.2.2)
/-- what an order does -/
def ordO (J : Nat → Nat) (z : ZT) (o : ORD) : OT := if o.1 = nI 98 then oBoard J z o.2.1 o.2.2 else if o.1 = nI 115 then oSwap z o.2.1 o.2.2 else if o.1 = nI 112 then oPut z o.2.1 o.2.2 else if o.1 = nI 103 then oGoal z o.2.1 o.2.2 else if o.1 = nI 116 then oTurn z o.2.1 else if o.1 = nI 120 then oBar z o.2.1 else oScr z o.2.1 o.2.2
theorem ok_ord (J : Nat → Nat) (z : ZT) (o : ORD) : okO z (ordO J z o) := okO_if (ok_board _ _ _ _) (okO_if (ok_swap _ _ _) (okO_if (ok_put _ _ _) (okO_if (ok_goal _ _ _) (okO_if (ok_turn _ _) (okO_if (ok_bar _ _) (ok_scr _ _ _))))))
/-- a valid board -/
def vZ (z : ZT) : Prop := (2 ≤ z.1 ∧ z.1 ≤ 3 ∧ 2 ≤ z.2.1 ∧ z.2.1 ≤ 3) ∧ (∀ q, q < z.1 * z.2.1 → 97 ≤ z.2.2.1 q ∧ z.2.2.1 q ≤ 108) ∧ (∀ q, q < z.1 * z.2.1 → z.2.2.2.1 q = 46 ∨ (97 ≤ z.2.2.2.1 q ∧ z.2.2.2.1 q ≤ 108)) ∧ (∀ i, z.2.2.1 i < 65536) ∧ (∀ i, z.2.2.2.1 i < 65536)
/-- orders one behind the other -/
def doN (J : Nat → Nat) : List ORD → ZT → OT
  | [], z => (0, z, nI 0, none)
  | o :: os, z => if (ordO J z o).1 = 0 then doN J os (ordO J z o).2.1 else ((if (ordO J z o).2.2.2.isSome = true then 2 else 1), z, nI 0, (ordO J z o).2.2.2)
theorem vZ_board {J : Nat → Nat} {z : ZT} (hJ : ∀ i, J i < 65536) (h : vZ z) (a b : Int32) : vZ (oBoard J z a b).2.1 := by
  unfold oBoard
  by_cases h1 : (decide (nI 2 ≤ a ∧ a ≤ nI 3) && decide (nI 2 ≤ b ∧ b ≤ nI 3)) = true
  · rw [if_pos h1]
    rw [Bool.and_eq_true] at h1
    obtain ⟨ka, a1, a2, rfl⟩ := inR_nI h1.1 (by decide) (by decide)
    obtain ⟨kb, b1, b2, rfl⟩ := inR_nI h1.2 (by decide) (by decide)
    rw [cl_n (by omega), cl_n (by omega)]
    have hd : 2 ≤ ka ∧ ka ≤ 3 ∧ 2 ≤ kb ∧ kb ≤ 3 := ⟨a1, a2, b1, b2⟩
    have hm := dm_mul hd
    have hb : ∀ i, bdL J (ka * kb) i < 65536 := fun i => by unfold bdL; split; omega; exact hJ i
    refine ⟨hd, fun q hq => ?_, fun q hq => Or.inr ?_, hb, hb⟩
    · have hq : q < ka * kb := hq
      show 97 ≤ bdL J (ka * kb) q ∧ bdL J (ka * kb) q ≤ 108
      rw [← bd_t hq]; omega
    · have hq : q < ka * kb := hq
      show 97 ≤ bdL J (ka * kb) q ∧ bdL J (ka * kb) q ≤ 108
      rw [← bd_t hq]; omega
  · rw [if_neg h1]; exact h
theorem up_rg {n p v : Nat} {L : Nat → Nat} {P : Nat → Prop} (h : ∀ q, q < n → P (L q)) (hv : P v) : ∀ q, q < n → P (va_up L p v q) := fun q hq => by
  unfold va_up; split
  · exact hv
  · exact h q hq
theorem vZ_put {z : ZT} (h : vZ z) (a b : Int32) : vZ (oPut z a b).2.1 := by
  unfold oPut
  split
  · split
    · rename_i h2
      obtain ⟨kb, b1, b2, rfl⟩ := inR_nI h2 (by decide) (by decide)
      split
      · exact h
      · rw [cl_n (by omega)]
        exact ⟨h.1, up_rg (P := fun x => 97 ≤ x ∧ x ≤ 108) h.2.1 ⟨b1, b2⟩, h.2.2.1, up_lt h.2.2.2.1 (by omega), h.2.2.2.2⟩
    · exact h
  · exact h
theorem vZ_goal {z : ZT} (h : vZ z) (a b : Int32) : vZ (oGoal z a b).2.1 := by
  unfold oGoal
  split
  · split
    · rename_i h2
      obtain ⟨kb, hb, rfl⟩ : ∃ kb, (kb = 46 ∨ (97 ≤ kb ∧ kb ≤ 108)) ∧ b = nI kb := by
        rw [Bool.or_eq_true] at h2
        rcases h2 with h2 | h2
        · obtain ⟨kb, b1, b2, e⟩ := inR_nI h2 (by decide) (by decide)
          exact ⟨kb, Or.inr ⟨b1, b2⟩, e⟩
        · exact ⟨46, Or.inl rfl, of_decide_eq_true h2⟩
      split
      · exact h
      · rw [cl_n (by omega)]
        exact ⟨h.1, h.2.1, up_rg (P := fun x => x = 46 ∨ (97 ≤ x ∧ x ≤ 108)) h.2.2.1 hb, h.2.2.2.1, up_lt h.2.2.2.2 (by omega)⟩
    · exact h
  · exact h
theorem vZ_turn {z : ZT} (h : vZ z) (a : Int32) : vZ (oTurn z a).2.1 := by
  have hm := dm_mul h.1
  have hd := h.1
  unfold oTurn
  by_cases h1 : isIx a (2 * (z.1 + z.2.1)) = true
  · rw [if_pos h1]
    obtain ⟨k, hk, rfl⟩ := isIx_t h1 (by omega)
    split
    · exact h
    · rw [cl_n (by omega)]
      exact ⟨h.1, tn_rg h.1 hk h.2.1, h.2.2.1, tn_lt h.2.2.2.1, h.2.2.2.2⟩
  · rw [if_neg h1]; exact h
theorem vZ_swap {z : ZT} (h : vZ z) (a b : Int32) : vZ (oSwap z a b).2.1 := by
  have hm := dm_mul h.1
  unfold oSwap
  by_cases h1 : (isIx a (z.1 * z.2.1) && isIx b (z.1 * z.2.1)) = true
  · rw [if_pos h1]
    rw [Bool.and_eq_true] at h1
    obtain ⟨ka, hka, rfl⟩ := isIx_t h1.1 (by omega)
    obtain ⟨kb, hkb, rfl⟩ := isIx_t h1.2 (by omega)
    split
    · exact h
    · rw [cl_n (by omega), cl_n (by omega)]
      exact ⟨h.1, swL_rg h.2.1 hka hkb, h.2.2.1, up_lt (up_lt h.2.2.2.1 (h.2.2.2.1 _)) (h.2.2.2.1 _), h.2.2.2.2⟩
  · rw [if_neg h1]; exact h
theorem vZ_bar {z : ZT} (h : vZ z) (a : Int32) : vZ (oBar z a).2.1 := by
  unfold oBar; split
  · exact ⟨h.1, h.2.1, h.2.2.1, h.2.2.2.1, h.2.2.2.2⟩
  · exact h
theorem vZ_scr {z : ZT} (h : vZ z) (a b : Int32) : vZ (oScr z a b).2.1 := by
  unfold oScr; split
  · exact ⟨h.1, scLN_rg h.1 h.2.1 _, h.2.2.1, scLN_lt h.2.2.2.1 _, h.2.2.2.2⟩
  · exact h
theorem vZ_step {z : ZT} (h : vZ z) : vZ (oStep z).2.1 := by
  have hd := h.1
  unfold oStep; split
  · exact h
  · split
    · exact h
    · split
      · exact h
      · rename_i h1 h2 h3
        have ha9 : awN (rchZ z) ≤ 4 := awN_le _
        have ha0 : 1 ≤ awN (rchZ z) := by
          rcases Nat.eq_zero_or_pos (awN (rchZ z)) with q | q
          · exfalso
            have h0 : rchZ z 0 = true := by
              unfold awN at q
              by_cases h0 : rchZ z 0 = true
              · exact h0
              · rw [if_neg h0] at q; revert q; (repeat' split) <;> intro q <;> exact absurd q (by decide)
            exact h1 (of_decide_eq_true h0)
          · exact q
        have hft : ftN z.1 z.2.1 z.2.2.2.2.1 z.2.2.1 z.2.2.2.1 (awN (rchZ z) - 1) < 2 * (z.1 + z.2.1) := ft_lt (by omega) ha0 (show awN (rchZ z) < 4 by omega)
        exact ⟨h.1, tn_rg h.1 hft h.2.1, h.2.2.1, tn_lt h.2.2.2.1, h.2.2.2.2⟩
theorem vZ_ord {J : Nat → Nat} {z : ZT} (hJ : ∀ i, J i < 65536) (h : vZ z) (o : ORD) : vZ (ordO J z o).2.1 := by
  unfold ordO
  split
  · exact vZ_board hJ h _ _
  · split
    · exact vZ_swap h _ _
    · split
      · exact vZ_put h _ _
      · split
        · exact vZ_goal h _ _
        · split
          · exact vZ_turn h _
          · split
            · exact vZ_bar h _
            · exact vZ_scr h _ _
theorem vZ_do {J : Nat → Nat} (hJ : ∀ i, J i < 65536) : ∀ (os : List ORD) (z : ZT), vZ z → vZ (doN J os z).2.1
  | [], _, h => h
  | o :: os, z, h => by
    rw [doN]; split
    · exact vZ_do hJ os _ (vZ_ord hJ h o)
    · exact h
def HoldX (td : Nat → Int32) (k : Nat) (o : ORD) : Prop := td k = o.1 ∧ td (k + 1) = o.2.1 ∧ (o.1 = nI 116 ∨ o.1 = nI 120 ∨ td (k + 2) = o.2.2)
theorem HoldX.b {td : Nat → Int32} {k : Nat} {o : ORD} (h : HoldX td k o) (h1 : ¬ o.1 = nI 116) (h2 : ¬ o.1 = nI 120) : td (k + 2) = o.2.2 := h.2.2.elim (fun z => absurd z h1) (fun z => z.elim (fun z => absurd z h2) id)
theorem HX3 {td : Nat → Int32} {k : Nat} {c a b : Int32} : HoldX (va_up (va_up (va_up td k c) (k + 1) a) (k + 2) b) k (c, a, b) ∧ ∀ j, j < k → va_up (va_up (va_up td k c) (k + 1) a) (k + 2) b j = td j := by
  refine ⟨⟨?_, ?_, Or.inr (Or.inr ?_)⟩, fun j hj => ?_⟩
  · unfold va_up; rw [if_neg (by omega), if_neg (by omega), if_pos rfl]
  · unfold va_up; rw [if_neg (by omega), if_pos rfl]
  · unfold va_up; rw [if_pos rfl]
  · unfold va_up; rw [if_neg (by omega), if_neg (by omega), if_neg (by omega)]
theorem HX2 {td : Nat → Int32} {k : Nat} {c a b : Int32} (h : c = nI 116 ∨ c = nI 120) : HoldX (va_up (va_up td k c) (k + 1) a) k (c, a, b) ∧ ∀ j, j < k → va_up (va_up td k c) (k + 1) a j = td j := by
  refine ⟨⟨?_, ?_, h.elim Or.inl (fun z => Or.inr (Or.inl z))⟩, fun j hj => ?_⟩
  · unfold va_up; rw [if_neg (by omega), if_pos rfl]
  · unfold va_up; rw [if_pos rfl]
  · unfold va_up; rw [if_neg (by omega), if_neg (by omega)]
theorem HX1 {td : Nat → Int32} {k : Nat} {c : Int32} : ∀ j, j < k → va_up td k c j = td j := fun j hj => by unfold va_up; rw [if_neg (by omega)]
section ORDS
variable {t : Nat → Nat} {n i : Nat}
theorem ordP_pg (h2 : hrI t n i = nI 112 ∨ hrI t n i = nI 103) : ordP t n i = (sgW t n (decide (hrI t n i = nI 103)) (fgS t n 1 false (i + 1)).2.1 (fgS t n 1 false (i + 1)).2.2, sgS t n (decide (hrI t n i = nI 103)) (fgS t n 1 false (i + 1)).2.1 (fgS t n 1 false (i + 1)).2.2, hrI t n i, nI (fgS t n 1 false (i + 1)).1, hrI t n (fgS t n 1 false (i + 1)).2.2) := by
  unfold ordP; rw [if_neg (by rcases h2 with h | h <;> (rw [h]; decide)), if_pos h2]
theorem ordP_bs (h2 : hrI t n i = nI 98 ∨ hrI t n i = nI 115) : ordP t n i = ((fgS t n 1 (fgS t n 1 false (i + 1)).2.1 (fgS t n 1 false (i + 1)).2.2).2.1, (fgS t n 1 (fgS t n 1 false (i + 1)).2.1 (fgS t n 1 false (i + 1)).2.2).2.2, hrI t n i, nI (fgS t n 1 false (i + 1)).1, nI (fgS t n 1 (fgS t n 1 false (i + 1)).2.1 (fgS t n 1 false (i + 1)).2.2).1) := by
  unfold ordP; rw [if_pos h2]
theorem ordP_t (h : hrI t n i = nI 116) : ordP t n i = ((fgS t n 3 false (i + 1)).2.1, (fgS t n 3 false (i + 1)).2.2, hrI t n i, nI (fgS t n 3 false (i + 1)).1, 0) := by
  unfold ordP; rw [if_neg (by rw [h]; decide), if_neg (by rw [h]; decide), if_pos h]
theorem ordP_x (h : hrI t n i = nI 120) : ordP t n i = ((fgS t n 1 false (i + 1)).2.1, (fgS t n 1 false (i + 1)).2.2, hrI t n i, nI (fgS t n 1 false (i + 1)).1, 0) := by
  unfold ordP; rw [if_neg (by rw [h]; decide), if_neg (by rw [h]; decide), if_neg (by rw [h]; decide), if_pos h]
theorem ordP_r (h : hrI t n i = nI 114) : ordP t n i = ((fgS t n 1 (ndW t n (nI 47) (fgS t n 3 false (i + 1)).2.1 (fgS t n 3 false (i + 1)).2.2) (ndS t n (nI 47) (fgS t n 3 false (i + 1)).2.1 (fgS t n 3 false (i + 1)).2.2)).2.1, (fgS t n 1 (ndW t n (nI 47) (fgS t n 3 false (i + 1)).2.1 (fgS t n 3 false (i + 1)).2.2) (ndS t n (nI 47) (fgS t n 3 false (i + 1)).2.1 (fgS t n 3 false (i + 1)).2.2)).2.2, hrI t n i, nI (fgS t n 3 false (i + 1)).1, nI (fgS t n 1 (ndW t n (nI 47) (fgS t n 3 false (i + 1)).2.1 (fgS t n 3 false (i + 1)).2.2) (ndS t n (nI 47) (fgS t n 3 false (i + 1)).2.1 (fgS t n 3 false (i + 1)).2.2)).1) := by
  unfold ordP; rw [if_neg (by rw [h]; decide), if_neg (by rw [h]; decide), if_neg (by rw [h]; decide), if_neg (by rw [h]; decide), if_pos h]
theorem ordP_d (h1 : ¬ hrI t n i = nI 98) (h2 : ¬ hrI t n i = nI 115) (h3 : ¬ hrI t n i = nI 112) (h4 : ¬ hrI t n i = nI 103) (h5 : ¬ hrI t n i = nI 116) (h6 : ¬ hrI t n i = nI 120) (h7 : ¬ hrI t n i = nI 114) : ordP t n i = (true, i, hrI t n i, 0, 0) := by
  unfold ordP; rw [if_neg (by simp only [not_or]; exact ⟨h1, h2⟩), if_neg (by simp only [not_or]; exact ⟨h3, h4⟩), if_neg h5, if_neg h6, if_neg h7]
end ORDS
def preO (os : List ORD) (r : Bool × Nat × List ORD) : Bool × Nat × List ORD := (r.1, r.2.1, os ++ r.2.2)
theorem rdP_w {t : Nat → Nat} {n f i : Nat} (h : (ordP t n i).1 = true) : rdP t n (f + 1) i = (true, (ordP t n i).2.1, [(ordP t n i).2.2]) := by rw [rdP, if_pos h]
theorem rdP_m {t : Nat → Nat} {n f i : Nat} (h : (ordP t n i).1 = false) (h2 : hrI t n (ordP t n i).2.1 = nI 59) : rdP t n (f + 1) i = preO [(ordP t n i).2.2] (rdP t n f ((ordP t n i).2.1 + 1)) := by
  rw [rdP, if_neg (by rw [h]; decide), if_pos h2]; rfl
theorem rdP_e {t : Nat → Nat} {n f i : Nat} (h : (ordP t n i).1 = false) (h2 : ¬ hrI t n (ordP t n i).2.1 = nI 59) : rdP t n (f + 1) i = (decide ((ordP t n i).2.1 < n), (ordP t n i).2.1, [(ordP t n i).2.2]) := by
  rw [rdP, if_neg (by rw [h]; decide), if_neg h2]
theorem preO_app (os : List ORD) (o : ORD) (r : Bool × Nat × List ORD) : preO os (preO [o] r) = preO (os ++ [o]) r := by simp [preO]
/-- a whole text's orders done -/
def runO (J : Nat → Nat) (t : Nat → Nat) (n : Nat) (z : ZT) : OT := if (rdP t n 62 0).1 = true then (1, z, nI 0, none) else if (doN J (rdP t n 62 0).2.2 z).1 = 0 then (0, (doN J (rdP t n 62 0).2.2 z).2.1, nI (rdP t n 62 0).2.2.length, none) else ((doN J (rdP t n 62 0).2.2 z).1, z, nI 0, (doN J (rdP t n 62 0).2.2 z).2.2.2)
theorem doN_s {J : Nat → Nat} {o : ORD} {os : List ORD} {z : ZT} (h : (ordO J z o).1 = 0) : doN J (o :: os) z = doN J os (ordO J z o).2.1 := by rw [doN, if_pos h]
theorem doN_f {J : Nat → Nat} {o : ORD} {os : List ORD} {z : ZT} (h : ¬ (ordO J z o).1 = 0) : doN J (o :: os) z = ((if (ordO J z o).2.2.2.isSome = true then 2 else 1), z, nI 0, (ordO J z o).2.2.2) := by rw [doN, if_neg h]
theorem drop_s {os : List ORD} {k : Nat} (h : k < os.length) : os.drop k = os.getD k (0, 0, 0) :: os.drop (k + 1) := by
  rw [List.drop_eq_getElem_cons h]; simp [h]
theorem HX_app {td td1 : Nat → Int32} {os : List ORD} {o : ORD} (h : ∀ i o, os[i]? = some o → HoldX td (3 * i) o) (hk : ∀ j, j < 3 * os.length → td1 j = td j) (hn : HoldX td1 (3 * os.length) o) : ∀ i o', (os ++ [o])[i]? = some o' → HoldX td1 (3 * i) o' := fun i o' ho => by
  rcases Nat.lt_or_ge i os.length with hl | hl
  · rw [List.getElem?_append_left hl] at ho
    obtain ⟨h1, h2, h3⟩ := h i o' ho
    refine ⟨by rw [hk _ (by omega)]; exact h1, by rw [hk _ (by omega)]; exact h2, ?_⟩
    rw [hk (3 * i + 2) (by omega)]; exact h3
  · rw [List.getElem?_append_right hl] at ho
    have hz : i - os.length < 1 := (List.getElem?_eq_some_iff.mp ho).1
    have e : i = os.length := by omega
    subst e
    rw [Nat.sub_self] at ho
    cases ho
    exact hn
set_option maxHeartbeats 4000000 in
set_option maxRecDepth 100000 in
theorem m_X5_here (l : Launch) (G : GG) (mh : Nat) (md : Nat → Nat) (nr : Nat) (nc : Nat) (pL : Nat → Nat) (pG : Nat → Nat) (pB : Nat → Bool) (pk : Nat → Int32) (bf : Nat → Int32) (hi : Nat → Int32) (sv : Nat → Int32) (ch : Nat) (hs : Bool) (inp : Nat → Nat) (ty : Nat) (er : Int32) (wy : Int32) (wd : Int32) (rf : Bool) (lt : Nat → Nat) (ln : Nat) (th : Int32) (tr : Nat → Nat) (mv : Nat → Nat) (fo : Int32) (sp : Nat) (wr : Bool) (td : Nat → Int32) (hsp : sp ≤ ty) (hty : ty ≤ 60) : MM l G yX5_here cX5_here 1 (some .int) ⟨0, 0, 0, 0⟩ [.ref mh] (MW G mh md nr nc pL pG pB pk bf hi sv ch hs inp ty er wy wd rf lt ln th tr mv fo sp wr td) (Qi_ G (fun (r : Int32) (_ : Unit) => r = (hrI inp ty sp)) (fun (_ : Unit) => (MW G mh md nr nc pL pG pB pk bf hi sv ch hs inp ty er wy wd rf lt ln th tr mv fo sp wr td))) := by
  refine MM.of (by decide) (Nat.le_of_ble_eq_true rfl) ?_
  intro p e s m args below meth cd A C hini hA hK hZ hP hD ls hl
  generalize hQ : MQ below ((Qi_ G (fun (r : Int32) (_ : Unit) => r = (hrI inp ty sp)) (fun (_ : Unit) => (MW G mh md nr nc pL pG pB pk bf hi sv ch hs inp ty er wy wd rf lt ln th tr mv fo sp wr td))) A) args s (⟨0, 0, 0, 0⟩ : Room).cells (⟨0, 0, 0, 0⟩ : Room).slots A = Q
  obtain ⟨hx, hb, hr, hts, hown, hlk, hml⟩ := C
  have hown : s.vm.findClass RX5 = some m.cls := hown
  have hS : va_S A s.heap s.heap [] := va_S.rf
  have hl : lv_has ls 1 [(0, .ref mh)] := hl
  refine lv_aload_n hx hb dX5_here_0 rfl (lv_at hl 0 rfl) ?_
  refine va_get (D := G.1) (ci := 4) (v := .int (nI sp)) (C := RX5) (T := TX5) (N := 21) hx hb hts in_X5 hown hK hP 0 rfl rfl 18 (by decide) (hts _ q1745) (fun _ h9 => h9) rfl dX5_here_1 ?_
  refine lv_aload_n hx hb dX5_here_4 rfl (lv_at hl 0 rfl) ?_
  refine va_get (D := G.1) (ci := 4) (v := .int (nI ty)) (C := RX5) (T := TX5) (N := 21) hx hb hts in_X5 hown hK hP 0 rfl rfl 7 (by decide) (hts _ q1734) (fun _ h9 => h9) rfl dX5_here_5 ?_
  refine n_cmp_ge (tgt := 23) hx hb dX5_here_8 (by decide) (by omega) (by omega) (fun c8 => ?_) (fun c8 => ?_)
  · skip
    refine lv_iconst (v := (-1)) hx hb dX5_here_23 (by decide) ?_
    subst hQ
    exact ret_i hx hb hr hlk () (if_neg (by omega)).symm hP hD hS rfl dX5_here_24
  · skip
    refine lv_aload_n hx hb dX5_here_11 rfl (lv_at hl 0 rfl) ?_
    refine va_get (D := G.1) (ci := 4) (v := .ref (md 4)) (C := RX5) (T := TX5) (N := 21) hx hb hts in_X5 hown hK hP 0 rfl rfl 6 (by decide) (hts _ q1733) (fun _ h9 => h9) rfl dX5_here_12 ?_
    refine lv_aload_n hx hb dX5_here_15 rfl (lv_at hl 0 rfl) ?_
    refine va_get (D := G.1) (ci := 4) (v := .int (nI sp)) (C := RX5) (T := TX5) (N := 21) hx hb hts in_X5 hown hK hP 0 rfl rfl 18 (by decide) (hts _ q1745) (fun _ h9 => h9) rfl dX5_here_16 ?_
    refine n_cald hx hb hK hP 5 2 rfl rfl (by omega) (by decide) dX5_here_19 ?_
    refine lv_goto (tgt := 24) hx hb dX5_here_20 (by decide) ?_
    subst hQ
    exact ret_i hx hb hr hlk () (if_pos (show sp < ty by omega)).symm hP hD hS rfl dX5_here_24
set_option maxHeartbeats 4000000 in
set_option maxRecDepth 100000 in
theorem m_X5_needs (l : Launch) (G : GG) (mh : Nat) (md : Nat → Nat) (nr : Nat) (nc : Nat) (pL : Nat → Nat) (pG : Nat → Nat) (pB : Nat → Bool) (pk : Nat → Int32) (bf : Nat → Int32) (hi : Nat → Int32) (sv : Nat → Int32) (ch : Nat) (hs : Bool) (inp : Nat → Nat) (ty : Nat) (er : Int32) (wy : Int32) (wd : Int32) (rf : Bool) (lt : Nat → Nat) (ln : Nat) (th : Int32) (tr : Nat → Nat) (mv : Nat → Nat) (fo : Int32) (sp : Nat) (wr : Bool) (td : Nat → Int32) (qc : Int32) (hsp : sp ≤ ty) (hty : ty ≤ 60) : MM l G yX5_needs cX5_needs 2 none ⟨1, 0, 0, 20⟩ [.ref mh, .int qc] (MW G mh md nr nc pL pG pB pk bf hi sv ch hs inp ty er wy wd rf lt ln th tr mv fo sp wr td) (Qv_ G (fun (_ : Unit) => True) (fun (_ : Unit) => (MW G mh md nr nc pL pG pB pk bf hi sv ch hs inp ty er wy wd rf lt ln th tr mv fo (ndS inp ty qc wr sp) (ndW inp ty qc wr sp) td))) := by
  refine MM.of (by decide) (Nat.le_of_ble_eq_true rfl) ?_
  intro p e s m args below meth cd A C hini hA hK hZ hP hD ls hl
  generalize hQ : MQ below ((Qv_ G (fun (_ : Unit) => True) (fun (_ : Unit) => (MW G mh md nr nc pL pG pB pk bf hi sv ch hs inp ty er wy wd rf lt ln th tr mv fo (ndS inp ty qc wr sp) (ndW inp ty qc wr sp) td))) A) args s (⟨1, 0, 0, 20⟩ : Room).cells (⟨1, 0, 0, 20⟩ : Room).slots A = Q
  obtain ⟨hx, hb, hr, hts, hown, hlk, hml⟩ := C
  have hown : s.vm.findClass RX5 = some m.cls := hown
  have hS : va_S A s.heap s.heap [] := va_S.rf
  have hl : lv_has ls 2 [(0, .ref mh), (1, .int qc)] := hl
  refine lv_aload_n hx hb dX5_needs_0 rfl (lv_at hl 0 rfl) ?_
  refine lv_aload_n hx hb dX5_needs_1 rfl (lv_at hl 0 rfl) ?_
  refine va_get (D := G.1) (ci := 4) (v := .int (bI wr)) (C := RX5) (T := TX5) (N := 21) hx hb hts in_X5 hown hK hP 0 rfl rfl 19 (by decide) (hts _ q1746) (fun _ h9 => h9) rfl dX5_needs_2 ?_
  refine b_if_ne (tgt := 16) hx hb dX5_needs_5 (by decide) (fun c5 => ?_) (fun c5 => ?_)
  · skip
    have hW : ndW inp ty qc wr sp = true := by first | (rw [ndW, c5]; rfl) | (rw [ndW, c5, decide_eq_false c13]; rfl)
    refine lv_iconst (v := nI 1) hx hb dX5_needs_16 (by decide) ?_
    refine lv_goto (tgt := 21) hx hb dX5_needs_17 (by decide) ?_
    refine va_put (D := G.1) (ci := 4) (v := .int (bI true)) (ty := .boolean) (C := RX5) (T := TX5) (N := 21) hx hb hts in_X5 tyX5 tyX5_ok nmX5 hown hK hP hD hS 0 rfl rfl 19 (by decide) (hts _ q1746) (fun _ h9 => h9) rfl (by decide +kernel) (bI_nar _) rfl (Nat.le_of_ble_eq_true rfl) dX5_needs_21 (fun H locs hP hD hS => ?_)
    have hP : va_P G.1 CL (MW G mh md nr nc pL pG pB pk bf hi sv ch hs inp ty er wy wd rf lt ln th tr mv fo sp true td) _ := hP
    have hD : va_D A (MW G mh md nr nc pL pG pB pk bf hi sv ch hs inp ty er wy wd rf lt ln th tr mv fo sp true td) := hD
    refine lv_aload_n hx hb dX5_needs_24 rfl (lv_at hl 0 rfl) ?_
    refine lv_dup hx hb dX5_needs_25 rfl ?_
    refine va_get (D := G.1) (ci := 4) (v := .int (nI sp)) (C := RX5) (T := TX5) (N := 21) hx hb hts in_X5 hown hK hP 0 rfl rfl 18 (by decide) (hts _ q1745) (fun _ h9 => h9) rfl dX5_needs_26 ?_
    refine lv_aload_n hx hb dX5_needs_29 rfl (lv_at hl 0 rfl) ?_
    refine va_get (D := G.1) (ci := 4) (v := .int (bI true)) (C := RX5) (T := TX5) (N := 21) hx hb hts in_X5 hown hK hP 0 rfl rfl 19 (by decide) (hts _ q1746) (fun _ h9 => h9) rfl dX5_needs_30 ?_
    refine b_if_eq (tgt := 40) hx hb dX5_needs_33 (by decide) (fun c33 => ?_) (fun c33 => ?_)
    · exact absurd c33 (by decide)
    refine lv_iconst (v := nI 0) hx hb dX5_needs_36 (by decide) ?_
    refine lv_goto (tgt := 41) hx hb dX5_needs_37 (by decide) ?_
    refine n_iadd hx hb dX5_needs_41 ?_
    refine va_put (D := G.1) (ci := 4) (v := .int (nI (sp + 0))) (ty := .int) (C := RX5) (T := TX5) (N := 21) hx hb hts in_X5 tyX5 tyX5_ok nmX5 hown hK hP hD hS 0 rfl rfl 18 (by decide) (hts _ q1745) (fun _ h9 => h9) rfl (by decide +kernel) rfl rfl (Nat.le_of_ble_eq_true rfl) dX5_needs_42 (fun H locs hP hD hS => ?_)
    have hP : va_P G.1 CL (MW G mh md nr nc pL pG pB pk bf hi sv ch hs inp ty er wy wd rf lt ln th tr mv fo (sp + 0) true td) _ := hP
    have hD : va_D A (MW G mh md nr nc pL pG pB pk bf hi sv ch hs inp ty er wy wd rf lt ln th tr mv fo (sp + 0) true td) := hD
    have e_sp : (sp + 0) = (ndS inp ty qc wr sp) := (by rw [ndS, if_pos hW]; rfl)
    rw [e_sp] at hP hD
    have e_wr : true = (ndW inp ty qc wr sp) := hW.symm
    rw [e_wr] at hP hD
    subst hQ
    exact ret_v hx hb hr hlk () trivial hP hD hS dX5_needs_45
  · skip
    refine lv_aload_n hx hb dX5_needs_8 rfl (lv_at hl 0 rfl) ?_
    refine callVi (As := []) (rest := [.ref mh]) (wc := (MW G mh md nr nc pL pG pB pk bf hi sv ch hs inp ty er wy wd rf lt ln th tr mv fo sp wr td)) (wr := ([] : va_W)) ⟨hx, hb, hml, hown, hts⟩ (m_X5_here l G mh md nr nc pL pG pB pk bf hi sv ch hs inp ty er wy wd rf lt ln th tr mv fo sp wr td (by first | assumption | omega) (by first | assumption | omega)) (cwV 0 hts (lw_V q2117 q2119 qs81 q105 q2120) rfl rfl rfl (by decide +kernel) ⟨Nat.le_of_ble_eq_true rfl, Nat.le_of_ble_eq_true rfl⟩) hK hZ hA hP hD hS [0, 1, 2, 3, 4, 5, 6, 7, 8, 9] [] rfl rfl (by decide) (by decide) (by decide) 0 4 rfl rfl rfl hl.1 (Nat.le_of_ble_eq_true rfl) ⟨Nat.le_of_ble_eq_true rfl, Nat.le_of_ble_eq_true rfl⟩ rfl dX5_needs_9 (fun r9 u9 H locs hw9 hP hD hS => ?_)
    subst hw9
    have hP : va_P G.1 CL (MW G mh md nr nc pL pG pB pk bf hi sv ch hs inp ty er wy wd rf lt ln th tr mv fo sp wr td) _ := hP
    have hD : va_D A (MW G mh md nr nc pL pG pB pk bf hi sv ch hs inp ty er wy wd rf lt ln th tr mv fo sp wr td) := hD
    refine lv_iload_n hx hb dX5_needs_12 rfl (lv_at hl 1 rfl) ?_
    refine lv_icmp_eq (tgt := 20) hx hb dX5_needs_13 (by decide) (fun c13 => ?_) (fun c13 => ?_)
    · skip
      have hW : ndW inp ty qc wr sp = false := by rw [ndW, c5, decide_eq_true c13]; rfl
      refine lv_iconst (v := nI 0) hx hb dX5_needs_20 (by decide) ?_
      refine va_put (D := G.1) (ci := 4) (v := .int (bI false)) (ty := .boolean) (C := RX5) (T := TX5) (N := 21) hx hb hts in_X5 tyX5 tyX5_ok nmX5 hown hK hP hD hS 0 rfl rfl 19 (by decide) (hts _ q1746) (fun _ h9 => h9) rfl (by decide +kernel) (bI_nar _) rfl (Nat.le_of_ble_eq_true rfl) dX5_needs_21 (fun H locs hP hD hS => ?_)
      have hP : va_P G.1 CL (MW G mh md nr nc pL pG pB pk bf hi sv ch hs inp ty er wy wd rf lt ln th tr mv fo sp false td) _ := hP
      have hD : va_D A (MW G mh md nr nc pL pG pB pk bf hi sv ch hs inp ty er wy wd rf lt ln th tr mv fo sp false td) := hD
      refine lv_aload_n hx hb dX5_needs_24 rfl (lv_at hl 0 rfl) ?_
      refine lv_dup hx hb dX5_needs_25 rfl ?_
      refine va_get (D := G.1) (ci := 4) (v := .int (nI sp)) (C := RX5) (T := TX5) (N := 21) hx hb hts in_X5 hown hK hP 0 rfl rfl 18 (by decide) (hts _ q1745) (fun _ h9 => h9) rfl dX5_needs_26 ?_
      refine lv_aload_n hx hb dX5_needs_29 rfl (lv_at hl 0 rfl) ?_
      refine va_get (D := G.1) (ci := 4) (v := .int (bI false)) (C := RX5) (T := TX5) (N := 21) hx hb hts in_X5 hown hK hP 0 rfl rfl 19 (by decide) (hts _ q1746) (fun _ h9 => h9) rfl dX5_needs_30 ?_
      refine b_if_eq (tgt := 40) hx hb dX5_needs_33 (by decide) (fun c33 => ?_) (fun c33 => ?_)
      rotate_left
      · exact absurd c33 (by decide)
      refine lv_iconst (v := nI 1) hx hb dX5_needs_40 (by decide) ?_
      refine n_iadd hx hb dX5_needs_41 ?_
      refine va_put (D := G.1) (ci := 4) (v := .int (nI (sp + 1))) (ty := .int) (C := RX5) (T := TX5) (N := 21) hx hb hts in_X5 tyX5 tyX5_ok nmX5 hown hK hP hD hS 0 rfl rfl 18 (by decide) (hts _ q1745) (fun _ h9 => h9) rfl (by decide +kernel) rfl rfl (Nat.le_of_ble_eq_true rfl) dX5_needs_42 (fun H locs hP hD hS => ?_)
      have hP : va_P G.1 CL (MW G mh md nr nc pL pG pB pk bf hi sv ch hs inp ty er wy wd rf lt ln th tr mv fo (sp + 1) false td) _ := hP
      have hD : va_D A (MW G mh md nr nc pL pG pB pk bf hi sv ch hs inp ty er wy wd rf lt ln th tr mv fo (sp + 1) false td) := hD
      have e_sp : (sp + 1) = (ndS inp ty qc wr sp) := (by rw [ndS, if_neg (by rw [hW]; decide)])
      rw [e_sp] at hP hD
      have e_wr : false = (ndW inp ty qc wr sp) := hW.symm
      rw [e_wr] at hP hD
      subst hQ
      exact ret_v hx hb hr hlk () trivial hP hD hS dX5_needs_45
    · skip
      have hW : ndW inp ty qc wr sp = true := by first | (rw [ndW, c5]; rfl) | (rw [ndW, c5, decide_eq_false c13]; rfl)
      refine lv_iconst (v := nI 1) hx hb dX5_needs_16 (by decide) ?_
      refine lv_goto (tgt := 21) hx hb dX5_needs_17 (by decide) ?_
      refine va_put (D := G.1) (ci := 4) (v := .int (bI true)) (ty := .boolean) (C := RX5) (T := TX5) (N := 21) hx hb hts in_X5 tyX5 tyX5_ok nmX5 hown hK hP hD hS 0 rfl rfl 19 (by decide) (hts _ q1746) (fun _ h9 => h9) rfl (by decide +kernel) (bI_nar _) rfl (Nat.le_of_ble_eq_true rfl) dX5_needs_21 (fun H locs hP hD hS => ?_)
      have hP : va_P G.1 CL (MW G mh md nr nc pL pG pB pk bf hi sv ch hs inp ty er wy wd rf lt ln th tr mv fo sp true td) _ := hP
      have hD : va_D A (MW G mh md nr nc pL pG pB pk bf hi sv ch hs inp ty er wy wd rf lt ln th tr mv fo sp true td) := hD
      refine lv_aload_n hx hb dX5_needs_24 rfl (lv_at hl 0 rfl) ?_
      refine lv_dup hx hb dX5_needs_25 rfl ?_
      refine va_get (D := G.1) (ci := 4) (v := .int (nI sp)) (C := RX5) (T := TX5) (N := 21) hx hb hts in_X5 hown hK hP 0 rfl rfl 18 (by decide) (hts _ q1745) (fun _ h9 => h9) rfl dX5_needs_26 ?_
      refine lv_aload_n hx hb dX5_needs_29 rfl (lv_at hl 0 rfl) ?_
      refine va_get (D := G.1) (ci := 4) (v := .int (bI true)) (C := RX5) (T := TX5) (N := 21) hx hb hts in_X5 hown hK hP 0 rfl rfl 19 (by decide) (hts _ q1746) (fun _ h9 => h9) rfl dX5_needs_30 ?_
      refine b_if_eq (tgt := 40) hx hb dX5_needs_33 (by decide) (fun c33 => ?_) (fun c33 => ?_)
      · exact absurd c33 (by decide)
      refine lv_iconst (v := nI 0) hx hb dX5_needs_36 (by decide) ?_
      refine lv_goto (tgt := 41) hx hb dX5_needs_37 (by decide) ?_
      refine n_iadd hx hb dX5_needs_41 ?_
      refine va_put (D := G.1) (ci := 4) (v := .int (nI (sp + 0))) (ty := .int) (C := RX5) (T := TX5) (N := 21) hx hb hts in_X5 tyX5 tyX5_ok nmX5 hown hK hP hD hS 0 rfl rfl 18 (by decide) (hts _ q1745) (fun _ h9 => h9) rfl (by decide +kernel) rfl rfl (Nat.le_of_ble_eq_true rfl) dX5_needs_42 (fun H locs hP hD hS => ?_)
      have hP : va_P G.1 CL (MW G mh md nr nc pL pG pB pk bf hi sv ch hs inp ty er wy wd rf lt ln th tr mv fo (sp + 0) true td) _ := hP
      have hD : va_D A (MW G mh md nr nc pL pG pB pk bf hi sv ch hs inp ty er wy wd rf lt ln th tr mv fo (sp + 0) true td) := hD
      have e_sp : (sp + 0) = (ndS inp ty qc wr sp) := (by rw [ndS, if_pos hW]; rfl)
      rw [e_sp] at hP hD
      have e_wr : true = (ndW inp ty qc wr sp) := hW.symm
      rw [e_wr] at hP hD
      subst hQ
      exact ret_v hx hb hr hlk () trivial hP hD hS dX5_needs_45
set_option maxHeartbeats 4000000 in
set_option maxRecDepth 100000 in
theorem m_X5_figures (l : Launch) (G : GG) (mh : Nat) (md : Nat → Nat) (nr : Nat) (nc : Nat) (pL : Nat → Nat) (pG : Nat → Nat) (pB : Nat → Bool) (pk : Nat → Int32) (bf : Nat → Int32) (hi : Nat → Int32) (sv : Nat → Int32) (ch : Nat) (hs : Bool) (inp : Nat → Nat) (ty : Nat) (er : Int32) (wy : Int32) (wd : Int32) (rf : Bool) (lt : Nat → Nat) (ln : Nat) (th : Int32) (tr : Nat → Nat) (mv : Nat → Nat) (fo : Int32) (sp : Nat) (wr : Bool) (td : Nat → Int32) (mo : Nat) (hsp : sp ≤ ty) (hty : ty ≤ 60) (hT : ∀ j, j < ty → inp j < 65536) (hmo : mo ≤ 3) : MM l G yX5_figures cX5_figures 4 (some .int) ⟨1, 0, 0, 22⟩ [.ref mh, .int (nI mo)] (MW G mh md nr nc pL pG pB pk bf hi sv ch hs inp ty er wy wd rf lt ln th tr mv fo sp wr td) (Qi_ G (fun (r : Int32) (_ : Unit) => r = nI ((fgS inp ty mo wr sp).1)) (fun (_ : Unit) => (MW G mh md nr nc pL pG pB pk bf hi sv ch hs inp ty er wy wd rf lt ln th tr mv fo ((fgS inp ty mo wr sp).2.2) ((fgS inp ty mo wr sp).2.1) td))) := by
  refine MM.of (by decide) (Nat.le_of_ble_eq_true rfl) ?_
  intro p e s m args below meth cd A C hini hA hK hZ hP hD ls hl
  generalize hQ : MQ below ((Qi_ G (fun (r : Int32) (_ : Unit) => r = nI ((fgS inp ty mo wr sp).1)) (fun (_ : Unit) => (MW G mh md nr nc pL pG pB pk bf hi sv ch hs inp ty er wy wd rf lt ln th tr mv fo ((fgS inp ty mo wr sp).2.2) ((fgS inp ty mo wr sp).2.1) td))) A) args s (⟨1, 0, 0, 22⟩ : Room).cells (⟨1, 0, 0, 22⟩ : Room).slots A = Q
  obtain ⟨hx, hb, hr, hts, hown, hlk, hml⟩ := C
  have hown : s.vm.findClass RX5 = some m.cls := hown
  have hS : va_S A s.heap s.heap [] := va_S.rf
  have hl : lv_has ls 4 [(0, .ref mh), (1, .int (nI mo))] := hl
  refine lv_aload_n hx hb dX5_figures_0 rfl (lv_at hl 0 rfl) ?_
  refine lv_aload_n hx hb dX5_figures_1 rfl (lv_at hl 0 rfl) ?_
  refine va_get (D := G.1) (ci := 4) (v := .int (bI wr)) (C := RX5) (T := TX5) (N := 21) hx hb hts in_X5 hown hK hP 0 rfl rfl 19 (by decide) (hts _ q1746) (fun _ h9 => h9) rfl dX5_figures_2 ?_
  refine b_if_ne (tgt := 22) hx hb dX5_figures_5 (by decide) (fun c5 => ?_) (fun c5 => ?_)
  · skip
    have hfg : fgS inp ty mo wr sp = (0, true, sp) := by first | (rw [fgS, if_pos c5]; done) | (rw [fgS, if_neg (by rw [c5]; decide), if_neg (by rw [c19]; decide)]; done)
    refine lv_iconst (v := nI 1) hx hb dX5_figures_22 (by decide) ?_
    refine lv_goto (tgt := 27) hx hb dX5_figures_23 (by decide) ?_
    refine va_put (D := G.1) (ci := 4) (v := .int (bI true)) (ty := .boolean) (C := RX5) (T := TX5) (N := 21) hx hb hts in_X5 tyX5 tyX5_ok nmX5 hown hK hP hD hS 0 rfl rfl 19 (by decide) (hts _ q1746) (fun _ h9 => h9) rfl (by decide +kernel) (bI_nar _) rfl (Nat.le_of_ble_eq_true rfl) dX5_figures_27 (fun H locs hP hD hS => ?_)
    have hP : va_P G.1 CL (MW G mh md nr nc pL pG pB pk bf hi sv ch hs inp ty er wy wd rf lt ln th tr mv fo sp true td) _ := hP
    have hD : va_D A (MW G mh md nr nc pL pG pB pk bf hi sv ch hs inp ty er wy wd rf lt ln th tr mv fo sp true td) := hD
    refine lv_iconst (v := nI 0) hx hb dX5_figures_30 (by decide) ?_
    refine lv_istore_n (lv' := [(2, .int (nI 0)), (0, .ref mh), (1, .int (nI mo))]) hx hb dX5_figures_31 rfl hl (by decide) rfl (fun ls hl => ?_)
    refine lv_iconst (v := nI 0) hx hb dX5_figures_32 (by decide) ?_
    refine lv_istore_n (lv' := [(3, .int (nI 0)), (2, .int (nI 0)), (0, .ref mh), (1, .int (nI mo))]) hx hb dX5_figures_33 rfl hl (by decide) rfl (fun ls hl => ?_)
    refine lv_aload_n hx hb dX5_figures_34 rfl (lv_at hl 2 rfl) ?_
    refine va_get (D := G.1) (ci := 4) (v := .int (bI true)) (C := RX5) (T := TX5) (N := 21) hx hb hts in_X5 hown hK hP 0 rfl rfl 19 (by decide) (hts _ q1746) (fun _ h9 => h9) rfl dX5_figures_35 ?_
    refine b_if_ne (tgt := 89) hx hb dX5_figures_38 (by decide) (fun c38 => ?_) (fun c38 => ?_)
    rotate_left
    · exact absurd c38 (by decide)
    refine lv_iload_n hx hb dX5_figures_89 rfl (lv_at hl 1 rfl) ?_
    have e_sp : sp = (fgS inp ty mo wr sp).2.2 := (by first | (rw [hfg, hend]; done) | (rw [hfg]; done) | (rw [hfg]; rfl))
    rw [e_sp] at hP hD
    have e_wr : true = (fgS inp ty mo wr sp).2.1 := (by first | (rw [hfg]; done) | (rw [hfg]; rfl))
    rw [e_wr] at hP hD
    subst hQ
    exact ret_i hx hb hr hlk () (congrArg nI (by first | (rw [hfg, hend]; done) | (rw [hfg]; done) | (rw [hfg]; rfl))) hP hD hS rfl dX5_figures_90
  · skip
    refine lv_aload_n hx hb dX5_figures_8 rfl (lv_at hl 0 rfl) ?_
    refine callVi (As := []) (rest := [.ref mh]) (wc := (MW G mh md nr nc pL pG pB pk bf hi sv ch hs inp ty er wy wd rf lt ln th tr mv fo sp wr td)) (wr := ([] : va_W)) ⟨hx, hb, hml, hown, hts⟩ (m_X5_here l G mh md nr nc pL pG pB pk bf hi sv ch hs inp ty er wy wd rf lt ln th tr mv fo sp wr td (by first | assumption | omega) (by first | assumption | omega)) (cwV 0 hts (lw_V q2117 q2119 qs81 q105 q2120) rfl rfl rfl (by decide +kernel) ⟨Nat.le_of_ble_eq_true rfl, Nat.le_of_ble_eq_true rfl⟩) hK hZ hA hP hD hS [0, 1, 2, 3, 4, 5, 6, 7, 8, 9] [] rfl rfl (by decide) (by decide) (by decide) 0 4 rfl rfl rfl hl.1 (Nat.le_of_ble_eq_true rfl) ⟨Nat.le_of_ble_eq_true rfl, Nat.le_of_ble_eq_true rfl⟩ rfl dX5_figures_9 (fun r9 u9 H locs hw9 hP hD hS => ?_)
    subst hw9
    have hP : va_P G.1 CL (MW G mh md nr nc pL pG pB pk bf hi sv ch hs inp ty er wy wd rf lt ln th tr mv fo sp wr td) _ := hP
    have hD : va_D A (MW G mh md nr nc pL pG pB pk bf hi sv ch hs inp ty er wy wd rf lt ln th tr mv fo sp wr td) := hD
    refine lv_bipush (v := nI 48) hx hb dX5_figures_12 (by decide) ?_
    refine lv_bipush (v := nI 57) hx hb dX5_figures_14 (by decide) ?_
    refine callSi (As := [.int (hrI inp ty sp), .int (nI 48), .int (nI 57)]) (rest := [.ref mh]) (wc := ([] : va_W)) (wr := (MW G mh md nr nc pL pG pB pk bf hi sv ch hs inp ty er wy wd rf lt ln th tr mv fo sp wr td)) ⟨hx, hb, hml, hown, hts⟩ (m_X5_in l G (hrI inp ty sp) (nI 48) (nI 57) ) (va_cwS 3 hts (lw_S q1810 q1811 q105 q1812) rfl rfl rfl (by decide +kernel) ⟨Nat.le_of_ble_eq_true rfl, Nat.le_of_ble_eq_true rfl⟩) hK hZ hA hP hD hS [] [0, 1, 2, 3, 4, 5, 6, 7, 8, 9] rfl rfl (by decide) (by decide) (by decide) rfl hl.1 (Nat.le_of_ble_eq_true rfl) ⟨Nat.le_of_ble_eq_true rfl, Nat.le_of_ble_eq_true rfl⟩ rfl dX5_figures_16 (fun r9 u9 H locs hw9 hP hD hS => ?_)
    subst hw9
    have hP : va_P G.1 CL (MW G mh md nr nc pL pG pB pk bf hi sv ch hs inp ty er wy wd rf lt ln th tr mv fo sp wr td) _ := hP
    have hD : va_D A (MW G mh md nr nc pL pG pB pk bf hi sv ch hs inp ty er wy wd rf lt ln th tr mv fo sp wr td) := hD
    rw [isDg_in hT]
    refine b_if_ne (tgt := 26) hx hb dX5_figures_19 (by decide) (fun c19 => ?_) (fun c19 => ?_)
    · skip
      have hfg : fgS inp ty mo wr sp = ((dgs inp ty mo sp 0).1, false, (dgs inp ty mo sp 0).2) := by rw [fgS, if_neg (by rw [c5]; decide), if_pos c19]
      refine lv_iconst (v := nI 0) hx hb dX5_figures_26 (by decide) ?_
      refine va_put (D := G.1) (ci := 4) (v := .int (bI false)) (ty := .boolean) (C := RX5) (T := TX5) (N := 21) hx hb hts in_X5 tyX5 tyX5_ok nmX5 hown hK hP hD hS 0 rfl rfl 19 (by decide) (hts _ q1746) (fun _ h9 => h9) rfl (by decide +kernel) (bI_nar _) rfl (Nat.le_of_ble_eq_true rfl) dX5_figures_27 (fun H locs hP hD hS => ?_)
      have hP : va_P G.1 CL (MW G mh md nr nc pL pG pB pk bf hi sv ch hs inp ty er wy wd rf lt ln th tr mv fo sp false td) _ := hP
      have hD : va_D A (MW G mh md nr nc pL pG pB pk bf hi sv ch hs inp ty er wy wd rf lt ln th tr mv fo sp false td) := hD
      refine lv_iconst (v := nI 0) hx hb dX5_figures_30 (by decide) ?_
      refine lv_istore_n (lv' := [(2, .int (nI 0)), (0, .ref mh), (1, .int (nI mo))]) hx hb dX5_figures_31 rfl hl (by decide) rfl (fun ls hl => ?_)
      refine lv_iconst (v := nI 0) hx hb dX5_figures_32 (by decide) ?_
      refine lv_istore_n (lv' := [(3, .int (nI 0)), (2, .int (nI 0)), (0, .ref mh), (1, .int (nI mo))]) hx hb dX5_figures_33 rfl hl (by decide) rfl (fun ls hl => ?_)
      have lp34 : ∀ (f : Nat) (v : Nat) (d : Nat) (s2 : Nat), mo - d < f → (d ≤ mo) → (s2 ≤ ty) → (dgs inp ty (mo - d) s2 v = dgs inp ty mo sp 0) → ∀ (H : Heap) (locs : List Loc) (ls : Array Slot), va_P G.1 CL (MW G mh md nr nc pL pG pB pk bf hi sv ch hs inp ty er wy wd rf lt ln th tr mv fo s2 false td) H → va_D A (MW G mh md nr nc pL pG pB pk bf hi sv ch hs inp ty er wy wd rf lt ln th tr mv fo s2 false td) → va_S A s.heap H locs → lv_has ls 4 [(3, .int (nI d)), (2, .int (nI v)), (0, .ref mh), (1, .int (nI mo))] → W p l e (⟨1, 0, 0, 22⟩ : Room) s m args below meth cd H locs 0 0 Q (F0 m 34 ls []) := by
        intro f
        induction f with
        | zero => intro v d s2 hf; exact absurd hf (Nat.not_lt_zero _)
        | succ f ih34 =>
          intro v d s2 hf hd9 hs2 hI H locs ls hP hD hS hl
          refine lv_aload_n hx hb dX5_figures_34 rfl (lv_at hl 2 rfl) ?_
          refine va_get (D := G.1) (ci := 4) (v := .int (bI false)) (C := RX5) (T := TX5) (N := 21) hx hb hts in_X5 hown hK hP 0 rfl rfl 19 (by decide) (hts _ q1746) (fun _ h9 => h9) rfl dX5_figures_35 ?_
          refine b_if_ne (tgt := 89) hx hb dX5_figures_38 (by decide) (fun c38 => ?_) (fun c38 => ?_)
          · exact absurd c38 (by decide)
          refine lv_iload_n hx hb dX5_figures_41 rfl (lv_at hl 0 rfl) ?_
          refine lv_iload_n hx hb dX5_figures_42 rfl (lv_at hl 3 rfl) ?_
          refine n_cmp_ge (tgt := 89) hx hb dX5_figures_43 (by decide) (by omega) (by omega) (fun c43 => ?_) (fun c43 => ?_)
          · skip
            have hend : dgs inp ty mo sp 0 = (v, s2) := by first | (rw [← hI, show mo - d = 0 by omega]; rfl) | (obtain ⟨m9, e9⟩ : ∃ m9, mo - d = m9 + 1 := ⟨mo - d - 1, by omega⟩; rw [← hI, e9, dgs, if_neg (by rw [c57]; decide)])
            refine lv_iload_n hx hb dX5_figures_89 rfl (lv_at hl 1 rfl) ?_
            have e_sp : s2 = (fgS inp ty mo wr sp).2.2 := (by first | (rw [hfg, hend]; done) | (rw [hfg]; done) | (rw [hfg]; rfl))
            rw [e_sp] at hP hD
            have e_wr : false = (fgS inp ty mo wr sp).2.1 := (by first | (rw [hfg]; done) | (rw [hfg]; rfl))
            rw [e_wr] at hP hD
            subst hQ
            exact ret_i hx hb hr hlk () (congrArg nI (by first | (rw [hfg, hend]; done) | (rw [hfg]; done) | (rw [hfg]; rfl))) hP hD hS rfl dX5_figures_90
          · skip
            refine lv_aload_n hx hb dX5_figures_46 rfl (lv_at hl 2 rfl) ?_
            refine callVi (As := []) (rest := []) (wc := (MW G mh md nr nc pL pG pB pk bf hi sv ch hs inp ty er wy wd rf lt ln th tr mv fo s2 false td)) (wr := ([] : va_W)) ⟨hx, hb, hml, hown, hts⟩ (m_X5_here l G mh md nr nc pL pG pB pk bf hi sv ch hs inp ty er wy wd rf lt ln th tr mv fo s2 false td (by first | assumption | omega) (by first | assumption | omega)) (cwV 0 hts (lw_V q2117 q2119 qs81 q105 q2120) rfl rfl rfl (by decide +kernel) ⟨Nat.le_of_ble_eq_true rfl, Nat.le_of_ble_eq_true rfl⟩) hK hZ hA hP hD hS [0, 1, 2, 3, 4, 5, 6, 7, 8, 9] [] rfl rfl (by decide) (by decide) (by decide) 0 4 rfl rfl rfl hl.1 (Nat.le_of_ble_eq_true rfl) ⟨Nat.le_of_ble_eq_true rfl, Nat.le_of_ble_eq_true rfl⟩ rfl dX5_figures_47 (fun r9 u9 H locs hw9 hP hD hS => ?_)
            subst hw9
            have hP : va_P G.1 CL (MW G mh md nr nc pL pG pB pk bf hi sv ch hs inp ty er wy wd rf lt ln th tr mv fo s2 false td) _ := hP
            have hD : va_D A (MW G mh md nr nc pL pG pB pk bf hi sv ch hs inp ty er wy wd rf lt ln th tr mv fo s2 false td) := hD
            refine lv_bipush (v := nI 48) hx hb dX5_figures_50 (by decide) ?_
            refine lv_bipush (v := nI 57) hx hb dX5_figures_52 (by decide) ?_
            refine callSi (As := [.int (hrI inp ty s2), .int (nI 48), .int (nI 57)]) (rest := []) (wc := ([] : va_W)) (wr := (MW G mh md nr nc pL pG pB pk bf hi sv ch hs inp ty er wy wd rf lt ln th tr mv fo s2 false td)) ⟨hx, hb, hml, hown, hts⟩ (m_X5_in l G (hrI inp ty s2) (nI 48) (nI 57) ) (va_cwS 3 hts (lw_S q1810 q1811 q105 q1812) rfl rfl rfl (by decide +kernel) ⟨Nat.le_of_ble_eq_true rfl, Nat.le_of_ble_eq_true rfl⟩) hK hZ hA hP hD hS [] [0, 1, 2, 3, 4, 5, 6, 7, 8, 9] rfl rfl (by decide) (by decide) (by decide) rfl hl.1 (Nat.le_of_ble_eq_true rfl) ⟨Nat.le_of_ble_eq_true rfl, Nat.le_of_ble_eq_true rfl⟩ rfl dX5_figures_54 (fun r9 u9 H locs hw9 hP hD hS => ?_)
            subst hw9
            have hP : va_P G.1 CL (MW G mh md nr nc pL pG pB pk bf hi sv ch hs inp ty er wy wd rf lt ln th tr mv fo s2 false td) _ := hP
            have hD : va_D A (MW G mh md nr nc pL pG pB pk bf hi sv ch hs inp ty er wy wd rf lt ln th tr mv fo s2 false td) := hD
            rw [isDg_in hT]
            refine b_if_eq (tgt := 89) hx hb dX5_figures_57 (by decide) (fun c57 => ?_) (fun c57 => ?_)
            · skip
              have hend : dgs inp ty mo sp 0 = (v, s2) := by first | (rw [← hI, show mo - d = 0 by omega]; rfl) | (obtain ⟨m9, e9⟩ : ∃ m9, mo - d = m9 + 1 := ⟨mo - d - 1, by omega⟩; rw [← hI, e9, dgs, if_neg (by rw [c57]; decide)])
              refine lv_iload_n hx hb dX5_figures_89 rfl (lv_at hl 1 rfl) ?_
              have e_sp : s2 = (fgS inp ty mo wr sp).2.2 := (by first | (rw [hfg, hend]; done) | (rw [hfg]; done) | (rw [hfg]; rfl))
              rw [e_sp] at hP hD
              have e_wr : false = (fgS inp ty mo wr sp).2.1 := (by first | (rw [hfg]; done) | (rw [hfg]; rfl))
              rw [e_wr] at hP hD
              subst hQ
              exact ret_i hx hb hr hlk () (congrArg nI (by first | (rw [hfg, hend]; done) | (rw [hfg]; done) | (rw [hfg]; rfl))) hP hD hS rfl dX5_figures_90
            · skip
              have hs9 := (of_decide_eq_true c57).1
              have hs8 := (of_decide_eq_true c57).2
              refine lv_bipush (v := nI 10) hx hb dX5_figures_60 (by decide) ?_
              refine lv_iload_n hx hb dX5_figures_62 rfl (lv_at hl 1 rfl) ?_
              refine n_imul hx hb dX5_figures_63 ?_
              refine lv_aload_n hx hb dX5_figures_64 rfl (lv_at hl 2 rfl) ?_
              refine callVi (As := []) (rest := [.int (nI (10 * v))]) (wc := (MW G mh md nr nc pL pG pB pk bf hi sv ch hs inp ty er wy wd rf lt ln th tr mv fo s2 false td)) (wr := ([] : va_W)) ⟨hx, hb, hml, hown, hts⟩ (m_X5_here l G mh md nr nc pL pG pB pk bf hi sv ch hs inp ty er wy wd rf lt ln th tr mv fo s2 false td (by first | assumption | omega) (by first | assumption | omega)) (cwV 0 hts (lw_V q2117 q2119 qs81 q105 q2120) rfl rfl rfl (by decide +kernel) ⟨Nat.le_of_ble_eq_true rfl, Nat.le_of_ble_eq_true rfl⟩) hK hZ hA hP hD hS [0, 1, 2, 3, 4, 5, 6, 7, 8, 9] [] rfl rfl (by decide) (by decide) (by decide) 0 4 rfl rfl rfl hl.1 (Nat.le_of_ble_eq_true rfl) ⟨Nat.le_of_ble_eq_true rfl, Nat.le_of_ble_eq_true rfl⟩ rfl dX5_figures_65 (fun r9 u9 H locs hw9 hP hD hS => ?_)
              subst hw9
              have hP : va_P G.1 CL (MW G mh md nr nc pL pG pB pk bf hi sv ch hs inp ty er wy wd rf lt ln th tr mv fo s2 false td) _ := hP
              have hD : va_D A (MW G mh md nr nc pL pG pB pk bf hi sv ch hs inp ty er wy wd rf lt ln th tr mv fo s2 false td) := hD
              refine eq_i (y := nI (inp s2)) (if_pos hs9) ?_
              refine n_iadd hx hb dX5_figures_68 ?_
              refine lv_bipush (v := nI 48) hx hb dX5_figures_69 (by decide) ?_
              refine n_isub hx hb (by omega) dX5_figures_71 ?_
              refine lv_istore_n (lv' := [(2, .int (nI (((10 * v) + (inp s2)) - 48))), (3, .int (nI d)), (0, .ref mh), (1, .int (nI mo))]) hx hb dX5_figures_72 rfl hl (by decide) rfl (fun ls hl => ?_)
              refine lv_aload_n hx hb dX5_figures_73 rfl (lv_at hl 2 rfl) ?_
              refine lv_dup hx hb dX5_figures_74 rfl ?_
              refine va_get (D := G.1) (ci := 4) (v := .int (nI s2)) (C := RX5) (T := TX5) (N := 21) hx hb hts in_X5 hown hK hP 0 rfl rfl 18 (by decide) (hts _ q1745) (fun _ h9 => h9) rfl dX5_figures_75 ?_
              refine lv_iconst (v := nI 1) hx hb dX5_figures_78 (by decide) ?_
              refine n_iadd hx hb dX5_figures_79 ?_
              refine va_put (D := G.1) (ci := 4) (v := .int (nI (s2 + 1))) (ty := .int) (C := RX5) (T := TX5) (N := 21) hx hb hts in_X5 tyX5 tyX5_ok nmX5 hown hK hP hD hS 0 rfl rfl 18 (by decide) (hts _ q1745) (fun _ h9 => h9) rfl (by decide +kernel) rfl rfl (Nat.le_of_ble_eq_true rfl) dX5_figures_80 (fun H locs hP hD hS => ?_)
              have hP : va_P G.1 CL (MW G mh md nr nc pL pG pB pk bf hi sv ch hs inp ty er wy wd rf lt ln th tr mv fo (s2 + 1) false td) _ := hP
              have hD : va_D A (MW G mh md nr nc pL pG pB pk bf hi sv ch hs inp ty er wy wd rf lt ln th tr mv fo (s2 + 1) false td) := hD
              refine lv_iinc (v := nI (d + 1)) (lv' := [(3, .int (nI (d + 1))), (2, .int (nI (((10 * v) + (inp s2)) - 48))), (0, .ref mh), (1, .int (nI mo))]) hx hb dX5_figures_83 hl (k := 1) rfl (nI_add _ _) (by decide) rfl (fun ls hl => ?_)
              refine lv_goto (tgt := 34) hx hb dX5_figures_86 (by decide) ?_
              exact ih34 (((10 * v) + (inp s2)) - 48) (d + 1) (s2 + 1) (by omega) (by omega) (by omega) (by rw [← hI, show mo - d = (mo - (d + 1)) + 1 by omega, dgs, if_pos c57]) _ _ _ hP hD hS (lv_sub hl [0, 1, 2, 3] rfl)
      exact lp34 _ 0 0 sp (Nat.lt_succ_self _) (by omega) (by omega) rfl _ _ _ hP hD hS (lv_sub hl [0, 1, 2, 3] rfl)
    · skip
      have hfg : fgS inp ty mo wr sp = (0, true, sp) := by first | (rw [fgS, if_pos c5]; done) | (rw [fgS, if_neg (by rw [c5]; decide), if_neg (by rw [c19]; decide)]; done)
      refine lv_iconst (v := nI 1) hx hb dX5_figures_22 (by decide) ?_
      refine lv_goto (tgt := 27) hx hb dX5_figures_23 (by decide) ?_
      refine va_put (D := G.1) (ci := 4) (v := .int (bI true)) (ty := .boolean) (C := RX5) (T := TX5) (N := 21) hx hb hts in_X5 tyX5 tyX5_ok nmX5 hown hK hP hD hS 0 rfl rfl 19 (by decide) (hts _ q1746) (fun _ h9 => h9) rfl (by decide +kernel) (bI_nar _) rfl (Nat.le_of_ble_eq_true rfl) dX5_figures_27 (fun H locs hP hD hS => ?_)
      have hP : va_P G.1 CL (MW G mh md nr nc pL pG pB pk bf hi sv ch hs inp ty er wy wd rf lt ln th tr mv fo sp true td) _ := hP
      have hD : va_D A (MW G mh md nr nc pL pG pB pk bf hi sv ch hs inp ty er wy wd rf lt ln th tr mv fo sp true td) := hD
      refine lv_iconst (v := nI 0) hx hb dX5_figures_30 (by decide) ?_
      refine lv_istore_n (lv' := [(2, .int (nI 0)), (0, .ref mh), (1, .int (nI mo))]) hx hb dX5_figures_31 rfl hl (by decide) rfl (fun ls hl => ?_)
      refine lv_iconst (v := nI 0) hx hb dX5_figures_32 (by decide) ?_
      refine lv_istore_n (lv' := [(3, .int (nI 0)), (2, .int (nI 0)), (0, .ref mh), (1, .int (nI mo))]) hx hb dX5_figures_33 rfl hl (by decide) rfl (fun ls hl => ?_)
      refine lv_aload_n hx hb dX5_figures_34 rfl (lv_at hl 2 rfl) ?_
      refine va_get (D := G.1) (ci := 4) (v := .int (bI true)) (C := RX5) (T := TX5) (N := 21) hx hb hts in_X5 hown hK hP 0 rfl rfl 19 (by decide) (hts _ q1746) (fun _ h9 => h9) rfl dX5_figures_35 ?_
      refine b_if_ne (tgt := 89) hx hb dX5_figures_38 (by decide) (fun c38 => ?_) (fun c38 => ?_)
      rotate_left
      · exact absurd c38 (by decide)
      refine lv_iload_n hx hb dX5_figures_89 rfl (lv_at hl 1 rfl) ?_
      have e_sp : sp = (fgS inp ty mo wr sp).2.2 := (by first | (rw [hfg, hend]; done) | (rw [hfg]; done) | (rw [hfg]; rfl))
      rw [e_sp] at hP hD
      have e_wr : true = (fgS inp ty mo wr sp).2.1 := (by first | (rw [hfg]; done) | (rw [hfg]; rfl))
      rw [e_wr] at hP hD
      subst hQ
      exact ret_i hx hb hr hlk () (congrArg nI (by first | (rw [hfg, hend]; done) | (rw [hfg]; done) | (rw [hfg]; rfl))) hP hD hS rfl dX5_figures_90
set_option maxHeartbeats 4000000 in
set_option maxRecDepth 100000 in
theorem m_X5_readsSign (l : Launch) (G : GG) (mh : Nat) (md : Nat → Nat) (nr : Nat) (nc : Nat) (pL : Nat → Nat) (pG : Nat → Nat) (pB : Nat → Bool) (pk : Nat → Int32) (bf : Nat → Int32) (hi : Nat → Int32) (sv : Nat → Int32) (ch : Nat) (hs : Bool) (inp : Nat → Nat) (ty : Nat) (er : Int32) (wy : Int32) (wd : Int32) (rf : Bool) (lt : Nat → Nat) (ln : Nat) (th : Int32) (tr : Nat → Nat) (mv : Nat → Nat) (fo : Int32) (sp : Nat) (wr : Bool) (td : Nat → Int32) (fr : Bool) (hsp : sp ≤ ty) (hty : ty ≤ 60) : MM l G yX5_readsSign cX5_readsSign 3 (some .int) ⟨2, 0, 0, 42⟩ [.ref mh, .int (bI fr)] (MW G mh md nr nc pL pG pB pk bf hi sv ch hs inp ty er wy wd rf lt ln th tr mv fo sp wr td) (Qi_ G (fun (r : Int32) (_ : Unit) => r = (hrI inp ty sp)) (fun (_ : Unit) => (MW G mh md nr nc pL pG pB pk bf hi sv ch hs inp ty er wy wd rf lt ln th tr mv fo (sgS inp ty fr wr sp) (sgW inp ty fr wr sp) td))) := by
  refine MM.of (by decide) (Nat.le_of_ble_eq_true rfl) ?_
  intro p e s m args below meth cd A C hini hA hK hZ hP hD ls hl
  generalize hQ : MQ below ((Qi_ G (fun (r : Int32) (_ : Unit) => r = (hrI inp ty sp)) (fun (_ : Unit) => (MW G mh md nr nc pL pG pB pk bf hi sv ch hs inp ty er wy wd rf lt ln th tr mv fo (sgS inp ty fr wr sp) (sgW inp ty fr wr sp) td))) A) args s (⟨2, 0, 0, 42⟩ : Room).cells (⟨2, 0, 0, 42⟩ : Room).slots A = Q
  obtain ⟨hx, hb, hr, hts, hown, hlk, hml⟩ := C
  have hown : s.vm.findClass RX5 = some m.cls := hown
  have hS : va_S A s.heap s.heap [] := va_S.rf
  have hl : lv_has ls 3 [(0, .ref mh), (1, .int (bI fr))] := hl
  refine lv_aload_n hx hb dX5_readsSign_0 rfl (lv_at hl 0 rfl) ?_
  refine callVi (As := []) (rest := []) (wc := (MW G mh md nr nc pL pG pB pk bf hi sv ch hs inp ty er wy wd rf lt ln th tr mv fo sp wr td)) (wr := ([] : va_W)) ⟨hx, hb, hml, hown, hts⟩ (m_X5_here l G mh md nr nc pL pG pB pk bf hi sv ch hs inp ty er wy wd rf lt ln th tr mv fo sp wr td (by first | assumption | omega) (by first | assumption | omega)) (cwV 0 hts (lw_V q2117 q2119 qs81 q105 q2120) rfl rfl rfl (by decide +kernel) ⟨Nat.le_of_ble_eq_true rfl, Nat.le_of_ble_eq_true rfl⟩) hK hZ hA hP hD hS [0, 1, 2, 3, 4, 5, 6, 7, 8, 9] [] rfl rfl (by decide) (by decide) (by decide) 0 4 rfl rfl rfl hl.1 (Nat.le_of_ble_eq_true rfl) ⟨Nat.le_of_ble_eq_true rfl, Nat.le_of_ble_eq_true rfl⟩ rfl dX5_readsSign_1 (fun r9 u9 H locs hw9 hP hD hS => ?_)
  subst hw9
  have hP : va_P G.1 CL (MW G mh md nr nc pL pG pB pk bf hi sv ch hs inp ty er wy wd rf lt ln th tr mv fo sp wr td) _ := hP
  have hD : va_D A (MW G mh md nr nc pL pG pB pk bf hi sv ch hs inp ty er wy wd rf lt ln th tr mv fo sp wr td) := hD
  refine lv_istore_n (lv' := [(2, .int (hrI inp ty sp)), (0, .ref mh), (1, .int (bI fr))]) hx hb dX5_readsSign_4 rfl hl (by decide) rfl (fun ls hl => ?_)
  refine lv_aload_n hx hb dX5_readsSign_5 rfl (lv_at hl 1 rfl) ?_
  refine lv_aload_n hx hb dX5_readsSign_6 rfl (lv_at hl 1 rfl) ?_
  refine va_get (D := G.1) (ci := 4) (v := .int (bI wr)) (C := RX5) (T := TX5) (N := 21) hx hb hts in_X5 hown hK hP 0 rfl rfl 19 (by decide) (hts _ q1746) (fun _ h9 => h9) rfl dX5_readsSign_7 ?_
  refine b_if_ne (tgt := 30) hx hb dX5_readsSign_10 (by decide) (fun c10 => ?_) (fun c10 => ?_)
  · skip
    have hW : sgW inp ty fr wr sp = true := by first | (rw [sgW, c10]; rfl) | (rw [sgW, c10, c17, c21]; rfl) | (rw [sgW, c10, c17, c21, decide_eq_false c27]; rfl)
    refine lv_iconst (v := nI 1) hx hb dX5_readsSign_30 (by decide) ?_
    refine lv_goto (tgt := 35) hx hb dX5_readsSign_31 (by decide) ?_
    refine va_put (D := G.1) (ci := 4) (v := .int (bI true)) (ty := .boolean) (C := RX5) (T := TX5) (N := 21) hx hb hts in_X5 tyX5 tyX5_ok nmX5 hown hK hP hD hS 0 rfl rfl 19 (by decide) (hts _ q1746) (fun _ h9 => h9) rfl (by decide +kernel) (bI_nar _) rfl (Nat.le_of_ble_eq_true rfl) dX5_readsSign_35 (fun H locs hP hD hS => ?_)
    have hP : va_P G.1 CL (MW G mh md nr nc pL pG pB pk bf hi sv ch hs inp ty er wy wd rf lt ln th tr mv fo sp true td) _ := hP
    have hD : va_D A (MW G mh md nr nc pL pG pB pk bf hi sv ch hs inp ty er wy wd rf lt ln th tr mv fo sp true td) := hD
    refine lv_aload_n hx hb dX5_readsSign_38 rfl (lv_at hl 1 rfl) ?_
    refine lv_dup hx hb dX5_readsSign_39 rfl ?_
    refine va_get (D := G.1) (ci := 4) (v := .int (nI sp)) (C := RX5) (T := TX5) (N := 21) hx hb hts in_X5 hown hK hP 0 rfl rfl 18 (by decide) (hts _ q1745) (fun _ h9 => h9) rfl dX5_readsSign_40 ?_
    refine lv_aload_n hx hb dX5_readsSign_43 rfl (lv_at hl 1 rfl) ?_
    refine va_get (D := G.1) (ci := 4) (v := .int (bI true)) (C := RX5) (T := TX5) (N := 21) hx hb hts in_X5 hown hK hP 0 rfl rfl 19 (by decide) (hts _ q1746) (fun _ h9 => h9) rfl dX5_readsSign_44 ?_
    refine b_if_eq (tgt := 54) hx hb dX5_readsSign_47 (by decide) (fun c47 => ?_) (fun c47 => ?_)
    · exact absurd c47 (by decide)
    refine lv_iconst (v := nI 0) hx hb dX5_readsSign_50 (by decide) ?_
    refine lv_goto (tgt := 55) hx hb dX5_readsSign_51 (by decide) ?_
    refine n_iadd hx hb dX5_readsSign_55 ?_
    refine va_put (D := G.1) (ci := 4) (v := .int (nI (sp + 0))) (ty := .int) (C := RX5) (T := TX5) (N := 21) hx hb hts in_X5 tyX5 tyX5_ok nmX5 hown hK hP hD hS 0 rfl rfl 18 (by decide) (hts _ q1745) (fun _ h9 => h9) rfl (by decide +kernel) rfl rfl (Nat.le_of_ble_eq_true rfl) dX5_readsSign_56 (fun H locs hP hD hS => ?_)
    have hP : va_P G.1 CL (MW G mh md nr nc pL pG pB pk bf hi sv ch hs inp ty er wy wd rf lt ln th tr mv fo (sp + 0) true td) _ := hP
    have hD : va_D A (MW G mh md nr nc pL pG pB pk bf hi sv ch hs inp ty er wy wd rf lt ln th tr mv fo (sp + 0) true td) := hD
    refine lv_iload_n hx hb dX5_readsSign_59 rfl (lv_at hl 0 rfl) ?_
    have e_sp : (sp + 0) = (sgS inp ty fr wr sp) := (by rw [sgS, if_pos hW]; rfl)
    rw [e_sp] at hP hD
    have e_wr : true = (sgW inp ty fr wr sp) := hW.symm
    rw [e_wr] at hP hD
    subst hQ
    exact ret_i hx hb hr hlk () rfl hP hD hS rfl dX5_readsSign_60
  · skip
    refine lv_iload_n hx hb dX5_readsSign_13 rfl (lv_at hl 0 rfl) ?_
    refine callSi (As := [.int (hrI inp ty sp)]) (rest := [.ref mh]) (wc := ([] : va_W)) (wr := (MW G mh md nr nc pL pG pB pk bf hi sv ch hs inp ty er wy wd rf lt ln th tr mv fo sp wr td)) ⟨hx, hb, hml, hown, hts⟩ (m_X5_isLetter l G (hrI inp ty sp) ) (va_cwS 1 hts (lw_S q1841 q1842 q105 q1843) rfl rfl rfl (by decide +kernel) ⟨Nat.le_of_ble_eq_true rfl, Nat.le_of_ble_eq_true rfl⟩) hK hZ hA hP hD hS [] [0, 1, 2, 3, 4, 5, 6, 7, 8, 9] rfl rfl (by decide) (by decide) (by decide) rfl hl.1 (Nat.le_of_ble_eq_true rfl) ⟨Nat.le_of_ble_eq_true rfl, Nat.le_of_ble_eq_true rfl⟩ rfl dX5_readsSign_14 (fun r9 u9 H locs hw9 hP hD hS => ?_)
    subst hw9
    have hP : va_P G.1 CL (MW G mh md nr nc pL pG pB pk bf hi sv ch hs inp ty er wy wd rf lt ln th tr mv fo sp wr td) _ := hP
    have hD : va_D A (MW G mh md nr nc pL pG pB pk bf hi sv ch hs inp ty er wy wd rf lt ln th tr mv fo sp wr td) := hD
    refine b_if_ne (tgt := 34) hx hb dX5_readsSign_17 (by decide) (fun c17 => ?_) (fun c17 => ?_)
    · skip
      have hW : sgW inp ty fr wr sp = false := by first | (rw [sgW, c10, c17]; rfl) | (rw [sgW, c10, c17, c21, decide_eq_true c27]; rfl)
      refine lv_iconst (v := nI 0) hx hb dX5_readsSign_34 (by decide) ?_
      refine va_put (D := G.1) (ci := 4) (v := .int (bI false)) (ty := .boolean) (C := RX5) (T := TX5) (N := 21) hx hb hts in_X5 tyX5 tyX5_ok nmX5 hown hK hP hD hS 0 rfl rfl 19 (by decide) (hts _ q1746) (fun _ h9 => h9) rfl (by decide +kernel) (bI_nar _) rfl (Nat.le_of_ble_eq_true rfl) dX5_readsSign_35 (fun H locs hP hD hS => ?_)
      have hP : va_P G.1 CL (MW G mh md nr nc pL pG pB pk bf hi sv ch hs inp ty er wy wd rf lt ln th tr mv fo sp false td) _ := hP
      have hD : va_D A (MW G mh md nr nc pL pG pB pk bf hi sv ch hs inp ty er wy wd rf lt ln th tr mv fo sp false td) := hD
      refine lv_aload_n hx hb dX5_readsSign_38 rfl (lv_at hl 1 rfl) ?_
      refine lv_dup hx hb dX5_readsSign_39 rfl ?_
      refine va_get (D := G.1) (ci := 4) (v := .int (nI sp)) (C := RX5) (T := TX5) (N := 21) hx hb hts in_X5 hown hK hP 0 rfl rfl 18 (by decide) (hts _ q1745) (fun _ h9 => h9) rfl dX5_readsSign_40 ?_
      refine lv_aload_n hx hb dX5_readsSign_43 rfl (lv_at hl 1 rfl) ?_
      refine va_get (D := G.1) (ci := 4) (v := .int (bI false)) (C := RX5) (T := TX5) (N := 21) hx hb hts in_X5 hown hK hP 0 rfl rfl 19 (by decide) (hts _ q1746) (fun _ h9 => h9) rfl dX5_readsSign_44 ?_
      refine b_if_eq (tgt := 54) hx hb dX5_readsSign_47 (by decide) (fun c47 => ?_) (fun c47 => ?_)
      rotate_left
      · exact absurd c47 (by decide)
      refine lv_iconst (v := nI 1) hx hb dX5_readsSign_54 (by decide) ?_
      refine n_iadd hx hb dX5_readsSign_55 ?_
      refine va_put (D := G.1) (ci := 4) (v := .int (nI (sp + 1))) (ty := .int) (C := RX5) (T := TX5) (N := 21) hx hb hts in_X5 tyX5 tyX5_ok nmX5 hown hK hP hD hS 0 rfl rfl 18 (by decide) (hts _ q1745) (fun _ h9 => h9) rfl (by decide +kernel) rfl rfl (Nat.le_of_ble_eq_true rfl) dX5_readsSign_56 (fun H locs hP hD hS => ?_)
      have hP : va_P G.1 CL (MW G mh md nr nc pL pG pB pk bf hi sv ch hs inp ty er wy wd rf lt ln th tr mv fo (sp + 1) false td) _ := hP
      have hD : va_D A (MW G mh md nr nc pL pG pB pk bf hi sv ch hs inp ty er wy wd rf lt ln th tr mv fo (sp + 1) false td) := hD
      refine lv_iload_n hx hb dX5_readsSign_59 rfl (lv_at hl 0 rfl) ?_
      have e_sp : (sp + 1) = (sgS inp ty fr wr sp) := (by rw [sgS, if_neg (by rw [hW]; decide)])
      rw [e_sp] at hP hD
      have e_wr : false = (sgW inp ty fr wr sp) := hW.symm
      rw [e_wr] at hP hD
      subst hQ
      exact ret_i hx hb hr hlk () rfl hP hD hS rfl dX5_readsSign_60
    · skip
      refine lv_iload_n hx hb dX5_readsSign_20 rfl (lv_at hl 2 rfl) ?_
      refine b_if_eq (tgt := 30) hx hb dX5_readsSign_21 (by decide) (fun c21 => ?_) (fun c21 => ?_)
      · skip
        have hW : sgW inp ty fr wr sp = true := by first | (rw [sgW, c10]; rfl) | (rw [sgW, c10, c17, c21]; rfl) | (rw [sgW, c10, c17, c21, decide_eq_false c27]; rfl)
        refine lv_iconst (v := nI 1) hx hb dX5_readsSign_30 (by decide) ?_
        refine lv_goto (tgt := 35) hx hb dX5_readsSign_31 (by decide) ?_
        refine va_put (D := G.1) (ci := 4) (v := .int (bI true)) (ty := .boolean) (C := RX5) (T := TX5) (N := 21) hx hb hts in_X5 tyX5 tyX5_ok nmX5 hown hK hP hD hS 0 rfl rfl 19 (by decide) (hts _ q1746) (fun _ h9 => h9) rfl (by decide +kernel) (bI_nar _) rfl (Nat.le_of_ble_eq_true rfl) dX5_readsSign_35 (fun H locs hP hD hS => ?_)
        have hP : va_P G.1 CL (MW G mh md nr nc pL pG pB pk bf hi sv ch hs inp ty er wy wd rf lt ln th tr mv fo sp true td) _ := hP
        have hD : va_D A (MW G mh md nr nc pL pG pB pk bf hi sv ch hs inp ty er wy wd rf lt ln th tr mv fo sp true td) := hD
        refine lv_aload_n hx hb dX5_readsSign_38 rfl (lv_at hl 1 rfl) ?_
        refine lv_dup hx hb dX5_readsSign_39 rfl ?_
        refine va_get (D := G.1) (ci := 4) (v := .int (nI sp)) (C := RX5) (T := TX5) (N := 21) hx hb hts in_X5 hown hK hP 0 rfl rfl 18 (by decide) (hts _ q1745) (fun _ h9 => h9) rfl dX5_readsSign_40 ?_
        refine lv_aload_n hx hb dX5_readsSign_43 rfl (lv_at hl 1 rfl) ?_
        refine va_get (D := G.1) (ci := 4) (v := .int (bI true)) (C := RX5) (T := TX5) (N := 21) hx hb hts in_X5 hown hK hP 0 rfl rfl 19 (by decide) (hts _ q1746) (fun _ h9 => h9) rfl dX5_readsSign_44 ?_
        refine b_if_eq (tgt := 54) hx hb dX5_readsSign_47 (by decide) (fun c47 => ?_) (fun c47 => ?_)
        · exact absurd c47 (by decide)
        refine lv_iconst (v := nI 0) hx hb dX5_readsSign_50 (by decide) ?_
        refine lv_goto (tgt := 55) hx hb dX5_readsSign_51 (by decide) ?_
        refine n_iadd hx hb dX5_readsSign_55 ?_
        refine va_put (D := G.1) (ci := 4) (v := .int (nI (sp + 0))) (ty := .int) (C := RX5) (T := TX5) (N := 21) hx hb hts in_X5 tyX5 tyX5_ok nmX5 hown hK hP hD hS 0 rfl rfl 18 (by decide) (hts _ q1745) (fun _ h9 => h9) rfl (by decide +kernel) rfl rfl (Nat.le_of_ble_eq_true rfl) dX5_readsSign_56 (fun H locs hP hD hS => ?_)
        have hP : va_P G.1 CL (MW G mh md nr nc pL pG pB pk bf hi sv ch hs inp ty er wy wd rf lt ln th tr mv fo (sp + 0) true td) _ := hP
        have hD : va_D A (MW G mh md nr nc pL pG pB pk bf hi sv ch hs inp ty er wy wd rf lt ln th tr mv fo (sp + 0) true td) := hD
        refine lv_iload_n hx hb dX5_readsSign_59 rfl (lv_at hl 0 rfl) ?_
        have e_sp : (sp + 0) = (sgS inp ty fr wr sp) := (by rw [sgS, if_pos hW]; rfl)
        rw [e_sp] at hP hD
        have e_wr : true = (sgW inp ty fr wr sp) := hW.symm
        rw [e_wr] at hP hD
        subst hQ
        exact ret_i hx hb hr hlk () rfl hP hD hS rfl dX5_readsSign_60
      · skip
        refine lv_iload_n hx hb dX5_readsSign_24 rfl (lv_at hl 0 rfl) ?_
        refine lv_bipush (v := nI 46) hx hb dX5_readsSign_25 (by decide) ?_
        refine lv_icmp_eq (tgt := 34) hx hb dX5_readsSign_27 (by decide) (fun c27 => ?_) (fun c27 => ?_)
        · skip
          have hW : sgW inp ty fr wr sp = false := by first | (rw [sgW, c10, c17]; rfl) | (rw [sgW, c10, c17, c21, decide_eq_true c27]; rfl)
          refine lv_iconst (v := nI 0) hx hb dX5_readsSign_34 (by decide) ?_
          refine va_put (D := G.1) (ci := 4) (v := .int (bI false)) (ty := .boolean) (C := RX5) (T := TX5) (N := 21) hx hb hts in_X5 tyX5 tyX5_ok nmX5 hown hK hP hD hS 0 rfl rfl 19 (by decide) (hts _ q1746) (fun _ h9 => h9) rfl (by decide +kernel) (bI_nar _) rfl (Nat.le_of_ble_eq_true rfl) dX5_readsSign_35 (fun H locs hP hD hS => ?_)
          have hP : va_P G.1 CL (MW G mh md nr nc pL pG pB pk bf hi sv ch hs inp ty er wy wd rf lt ln th tr mv fo sp false td) _ := hP
          have hD : va_D A (MW G mh md nr nc pL pG pB pk bf hi sv ch hs inp ty er wy wd rf lt ln th tr mv fo sp false td) := hD
          refine lv_aload_n hx hb dX5_readsSign_38 rfl (lv_at hl 1 rfl) ?_
          refine lv_dup hx hb dX5_readsSign_39 rfl ?_
          refine va_get (D := G.1) (ci := 4) (v := .int (nI sp)) (C := RX5) (T := TX5) (N := 21) hx hb hts in_X5 hown hK hP 0 rfl rfl 18 (by decide) (hts _ q1745) (fun _ h9 => h9) rfl dX5_readsSign_40 ?_
          refine lv_aload_n hx hb dX5_readsSign_43 rfl (lv_at hl 1 rfl) ?_
          refine va_get (D := G.1) (ci := 4) (v := .int (bI false)) (C := RX5) (T := TX5) (N := 21) hx hb hts in_X5 hown hK hP 0 rfl rfl 19 (by decide) (hts _ q1746) (fun _ h9 => h9) rfl dX5_readsSign_44 ?_
          refine b_if_eq (tgt := 54) hx hb dX5_readsSign_47 (by decide) (fun c47 => ?_) (fun c47 => ?_)
          rotate_left
          · exact absurd c47 (by decide)
          refine lv_iconst (v := nI 1) hx hb dX5_readsSign_54 (by decide) ?_
          refine n_iadd hx hb dX5_readsSign_55 ?_
          refine va_put (D := G.1) (ci := 4) (v := .int (nI (sp + 1))) (ty := .int) (C := RX5) (T := TX5) (N := 21) hx hb hts in_X5 tyX5 tyX5_ok nmX5 hown hK hP hD hS 0 rfl rfl 18 (by decide) (hts _ q1745) (fun _ h9 => h9) rfl (by decide +kernel) rfl rfl (Nat.le_of_ble_eq_true rfl) dX5_readsSign_56 (fun H locs hP hD hS => ?_)
          have hP : va_P G.1 CL (MW G mh md nr nc pL pG pB pk bf hi sv ch hs inp ty er wy wd rf lt ln th tr mv fo (sp + 1) false td) _ := hP
          have hD : va_D A (MW G mh md nr nc pL pG pB pk bf hi sv ch hs inp ty er wy wd rf lt ln th tr mv fo (sp + 1) false td) := hD
          refine lv_iload_n hx hb dX5_readsSign_59 rfl (lv_at hl 0 rfl) ?_
          have e_sp : (sp + 1) = (sgS inp ty fr wr sp) := (by rw [sgS, if_neg (by rw [hW]; decide)])
          rw [e_sp] at hP hD
          have e_wr : false = (sgW inp ty fr wr sp) := hW.symm
          rw [e_wr] at hP hD
          subst hQ
          exact ret_i hx hb hr hlk () rfl hP hD hS rfl dX5_readsSign_60
        · skip
          have hW : sgW inp ty fr wr sp = true := by first | (rw [sgW, c10]; rfl) | (rw [sgW, c10, c17, c21]; rfl) | (rw [sgW, c10, c17, c21, decide_eq_false c27]; rfl)
          refine lv_iconst (v := nI 1) hx hb dX5_readsSign_30 (by decide) ?_
          refine lv_goto (tgt := 35) hx hb dX5_readsSign_31 (by decide) ?_
          refine va_put (D := G.1) (ci := 4) (v := .int (bI true)) (ty := .boolean) (C := RX5) (T := TX5) (N := 21) hx hb hts in_X5 tyX5 tyX5_ok nmX5 hown hK hP hD hS 0 rfl rfl 19 (by decide) (hts _ q1746) (fun _ h9 => h9) rfl (by decide +kernel) (bI_nar _) rfl (Nat.le_of_ble_eq_true rfl) dX5_readsSign_35 (fun H locs hP hD hS => ?_)
          have hP : va_P G.1 CL (MW G mh md nr nc pL pG pB pk bf hi sv ch hs inp ty er wy wd rf lt ln th tr mv fo sp true td) _ := hP
          have hD : va_D A (MW G mh md nr nc pL pG pB pk bf hi sv ch hs inp ty er wy wd rf lt ln th tr mv fo sp true td) := hD
          refine lv_aload_n hx hb dX5_readsSign_38 rfl (lv_at hl 1 rfl) ?_
          refine lv_dup hx hb dX5_readsSign_39 rfl ?_
          refine va_get (D := G.1) (ci := 4) (v := .int (nI sp)) (C := RX5) (T := TX5) (N := 21) hx hb hts in_X5 hown hK hP 0 rfl rfl 18 (by decide) (hts _ q1745) (fun _ h9 => h9) rfl dX5_readsSign_40 ?_
          refine lv_aload_n hx hb dX5_readsSign_43 rfl (lv_at hl 1 rfl) ?_
          refine va_get (D := G.1) (ci := 4) (v := .int (bI true)) (C := RX5) (T := TX5) (N := 21) hx hb hts in_X5 hown hK hP 0 rfl rfl 19 (by decide) (hts _ q1746) (fun _ h9 => h9) rfl dX5_readsSign_44 ?_
          refine b_if_eq (tgt := 54) hx hb dX5_readsSign_47 (by decide) (fun c47 => ?_) (fun c47 => ?_)
          · exact absurd c47 (by decide)
          refine lv_iconst (v := nI 0) hx hb dX5_readsSign_50 (by decide) ?_
          refine lv_goto (tgt := 55) hx hb dX5_readsSign_51 (by decide) ?_
          refine n_iadd hx hb dX5_readsSign_55 ?_
          refine va_put (D := G.1) (ci := 4) (v := .int (nI (sp + 0))) (ty := .int) (C := RX5) (T := TX5) (N := 21) hx hb hts in_X5 tyX5 tyX5_ok nmX5 hown hK hP hD hS 0 rfl rfl 18 (by decide) (hts _ q1745) (fun _ h9 => h9) rfl (by decide +kernel) rfl rfl (Nat.le_of_ble_eq_true rfl) dX5_readsSign_56 (fun H locs hP hD hS => ?_)
          have hP : va_P G.1 CL (MW G mh md nr nc pL pG pB pk bf hi sv ch hs inp ty er wy wd rf lt ln th tr mv fo (sp + 0) true td) _ := hP
          have hD : va_D A (MW G mh md nr nc pL pG pB pk bf hi sv ch hs inp ty er wy wd rf lt ln th tr mv fo (sp + 0) true td) := hD
          refine lv_iload_n hx hb dX5_readsSign_59 rfl (lv_at hl 0 rfl) ?_
          have e_sp : (sp + 0) = (sgS inp ty fr wr sp) := (by rw [sgS, if_pos hW]; rfl)
          rw [e_sp] at hP hD
          have e_wr : true = (sgW inp ty fr wr sp) := hW.symm
          rw [e_wr] at hP hD
          subst hQ
          exact ret_i hx hb hr hlk () rfl hP hD hS rfl dX5_readsSign_60
set_option maxHeartbeats 4000000 in
set_option maxRecDepth 100000 in
theorem m_X5_readsOrder (l : Launch) (G : GG) (mh : Nat) (md : Nat → Nat) (nr : Nat) (nc : Nat) (pL : Nat → Nat) (pG : Nat → Nat) (pB : Nat → Bool) (pk : Nat → Int32) (bf : Nat → Int32) (hi : Nat → Int32) (sv : Nat → Int32) (ch : Nat) (hs : Bool) (inp : Nat → Nat) (ty : Nat) (er : Int32) (wy : Int32) (wd : Int32) (rf : Bool) (lt : Nat → Nat) (ln : Nat) (th : Int32) (tr : Nat → Nat) (mv : Nat → Nat) (fo : Int32) (sp : Nat) (td : Nat → Int32) (kx : Nat) (hsp : sp ≤ ty) (hty : ty ≤ 60) (hT : ∀ j, j < ty → inp j < 65536) (hkx : kx + 2 < 180) : MM l G yX5_readsOrder cX5_readsOrder 3 none ⟨3, 0, 0, 64⟩ [.ref mh, .int (nI kx)] (MW G mh md nr nc pL pG pB pk bf hi sv ch hs inp ty er wy wd rf lt ln th tr mv fo sp false td) (Qv_ G (fun (u : (Nat → Int32)) => ((ordP inp ty sp).1 = false → HoldX u kx (ordP inp ty sp).2.2) ∧ ∀ j, j < kx → u j = td j) (fun (u : (Nat → Int32)) => (MW G mh md nr nc pL pG pB pk bf hi sv ch hs inp ty er wy wd rf lt ln th tr mv fo ((ordP inp ty sp).2.1) ((ordP inp ty sp).1) u))) := by
  refine MM.of (by decide) (Nat.le_of_ble_eq_true rfl) ?_
  intro p e s m args below meth cd A C hini hA hK hZ hP hD ls hl
  generalize hQ : MQ below ((Qv_ G (fun (u : (Nat → Int32)) => ((ordP inp ty sp).1 = false → HoldX u kx (ordP inp ty sp).2.2) ∧ ∀ j, j < kx → u j = td j) (fun (u : (Nat → Int32)) => (MW G mh md nr nc pL pG pB pk bf hi sv ch hs inp ty er wy wd rf lt ln th tr mv fo ((ordP inp ty sp).2.1) ((ordP inp ty sp).1) u))) A) args s (⟨3, 0, 0, 64⟩ : Room).cells (⟨3, 0, 0, 64⟩ : Room).slots A = Q
  obtain ⟨hx, hb, hr, hts, hown, hlk, hml⟩ := C
  have hown : s.vm.findClass RX5 = some m.cls := hown
  have hS : va_S A s.heap s.heap [] := va_S.rf
  have hl : lv_has ls 3 [(0, .ref mh), (1, .int (nI kx))] := hl
  refine lv_aload_n hx hb dX5_readsOrder_0 rfl (lv_at hl 0 rfl) ?_
  refine callVi (As := []) (rest := []) (wc := (MW G mh md nr nc pL pG pB pk bf hi sv ch hs inp ty er wy wd rf lt ln th tr mv fo sp false td)) (wr := ([] : va_W)) ⟨hx, hb, hml, hown, hts⟩ (m_X5_here l G mh md nr nc pL pG pB pk bf hi sv ch hs inp ty er wy wd rf lt ln th tr mv fo sp false td (by first | assumption | omega) (by first | assumption | omega)) (cwV 0 hts (lw_V q2117 q2119 qs81 q105 q2120) rfl rfl rfl (by decide +kernel) ⟨Nat.le_of_ble_eq_true rfl, Nat.le_of_ble_eq_true rfl⟩) hK hZ hA hP hD hS [0, 1, 2, 3, 4, 5, 6, 7, 8, 9] [] rfl rfl (by decide) (by decide) (by decide) 0 4 rfl rfl rfl hl.1 (Nat.le_of_ble_eq_true rfl) ⟨Nat.le_of_ble_eq_true rfl, Nat.le_of_ble_eq_true rfl⟩ rfl dX5_readsOrder_1 (fun r9 u9 H locs hw9 hP hD hS => ?_)
  subst hw9
  have hP : va_P G.1 CL (MW G mh md nr nc pL pG pB pk bf hi sv ch hs inp ty er wy wd rf lt ln th tr mv fo sp false td) _ := hP
  have hD : va_D A (MW G mh md nr nc pL pG pB pk bf hi sv ch hs inp ty er wy wd rf lt ln th tr mv fo sp false td) := hD
  refine lv_istore_n (lv' := [(2, .int (hrI inp ty sp)), (0, .ref mh), (1, .int (nI kx))]) hx hb dX5_readsOrder_4 rfl hl (by decide) rfl (fun ls hl => ?_)
  refine lv_aload_n hx hb dX5_readsOrder_5 rfl (lv_at hl 1 rfl) ?_
  refine lv_dup hx hb dX5_readsOrder_6 rfl ?_
  refine va_get (D := G.1) (ci := 4) (v := .int (nI sp)) (C := RX5) (T := TX5) (N := 21) hx hb hts in_X5 hown hK hP 0 rfl rfl 18 (by decide) (hts _ q1745) (fun _ h9 => h9) rfl dX5_readsOrder_7 ?_
  refine lv_iconst (v := nI 1) hx hb dX5_readsOrder_10 (by decide) ?_
  refine n_iadd hx hb dX5_readsOrder_11 ?_
  refine va_put (D := G.1) (ci := 4) (v := .int (nI (sp + 1))) (ty := .int) (C := RX5) (T := TX5) (N := 21) hx hb hts in_X5 tyX5 tyX5_ok nmX5 hown hK hP hD hS 0 rfl rfl 18 (by decide) (hts _ q1745) (fun _ h9 => h9) rfl (by decide +kernel) rfl rfl (Nat.le_of_ble_eq_true rfl) dX5_readsOrder_12 (fun H locs hP hD hS => ?_)
  have hP : va_P G.1 CL (MW G mh md nr nc pL pG pB pk bf hi sv ch hs inp ty er wy wd rf lt ln th tr mv fo (sp + 1) false td) _ := hP
  have hD : va_D A (MW G mh md nr nc pL pG pB pk bf hi sv ch hs inp ty er wy wd rf lt ln th tr mv fo (sp + 1) false td) := hD
  refine lv_aload_n hx hb dX5_readsOrder_15 rfl (lv_at hl 1 rfl) ?_
  refine va_get (D := G.1) (ci := 4) (v := .ref (md 8)) (C := RX5) (T := TX5) (N := 21) hx hb hts in_X5 hown hK hP 0 rfl rfl 20 (by decide) (hts _ q1747) (fun _ h9 => h9) rfl dX5_readsOrder_16 ?_
  refine lv_iload_n hx hb dX5_readsOrder_19 rfl (lv_at hl 2 rfl) ?_
  refine lv_iload_n hx hb dX5_readsOrder_20 rfl (lv_at hl 0 rfl) ?_
  refine r_iast hx hb hK hP hD hS 9 3 rfl rfl (by omega) (by decide) dX5_readsOrder_21 (fun H locs hP hD hS => ?_)
  have hP : va_P G.1 CL (MW G mh md nr nc pL pG pB pk bf hi sv ch hs inp ty er wy wd rf lt ln th tr mv fo (sp + 1) false (va_up td kx (hrI inp ty sp))) _ := hP
  have hD : va_D A (MW G mh md nr nc pL pG pB pk bf hi sv ch hs inp ty er wy wd rf lt ln th tr mv fo (sp + 1) false (va_up td kx (hrI inp ty sp))) := hD
  refine lv_iload_n hx hb dX5_readsOrder_22 rfl (lv_at hl 0 rfl) ?_
  by_cases k23_98 : (hrI inp ty sp) = nI 98
  · skip
    refine lv_tableIn (off := 105) (tgt := 128) hx hb dX5_readsOrder_23 (by rw [k23_98]; decide) (by rw [k23_98]; decide) (by rw [k23_98]; decide) (by decide) ?_
    have hn1 : sp + 1 ≤ ty := hrI_lt (show hrI inp ty sp = nI _ by assumption) (by decide)
    refine lv_aload_n hx hb dX5_readsOrder_128 rfl (lv_at hl 1 rfl) ?_
    refine va_get (D := G.1) (ci := 4) (v := .ref (md 8)) (C := RX5) (T := TX5) (N := 21) hx hb hts in_X5 hown hK hP 0 rfl rfl 20 (by decide) (hts _ q1747) (fun _ h9 => h9) rfl dX5_readsOrder_129 ?_
    refine lv_iload_n hx hb dX5_readsOrder_132 rfl (lv_at hl 2 rfl) ?_
    refine lv_iconst (v := nI 1) hx hb dX5_readsOrder_133 (by decide) ?_
    refine n_iadd hx hb dX5_readsOrder_134 ?_
    refine lv_aload_n hx hb dX5_readsOrder_135 rfl (lv_at hl 1 rfl) ?_
    refine lv_iconst (v := nI 1) hx hb dX5_readsOrder_136 (by decide) ?_
    refine callVi (As := [.int (nI 1)]) (rest := [.int (nI (kx + 1)), .ref (md 8)]) (wc := (MW G mh md nr nc pL pG pB pk bf hi sv ch hs inp ty er wy wd rf lt ln th tr mv fo (sp + 1) false (va_up td kx (hrI inp ty sp)))) (wr := ([] : va_W)) ⟨hx, hb, hml, hown, hts⟩ (m_X5_figures l G mh md nr nc pL pG pB pk bf hi sv ch hs inp ty er wy wd rf lt ln th tr mv fo (sp + 1) false (va_up td kx (hrI inp ty sp)) 1 (by first | exact hn1 | exact g1.2 | exact g2.2) (by first | assumption | omega) (by first | assumption | omega) (by first | assumption | omega)) (cwV 1 hts (lw_V q2121 q2123 qs82 q105 q2124) rfl rfl rfl (by decide +kernel) ⟨Nat.le_of_ble_eq_true rfl, Nat.le_of_ble_eq_true rfl⟩) hK hZ hA hP hD hS [0, 1, 2, 3, 4, 5, 6, 7, 8, 9] [] rfl rfl (by decide) (by decide) (by decide) 0 4 rfl rfl rfl hl.1 (Nat.le_of_ble_eq_true rfl) ⟨Nat.le_of_ble_eq_true rfl, Nat.le_of_ble_eq_true rfl⟩ rfl dX5_readsOrder_137 (fun r9 u9 H locs hw9 hP hD hS => ?_)
    subst hw9
    have hP : va_P G.1 CL (MW G mh md nr nc pL pG pB pk bf hi sv ch hs inp ty er wy wd rf lt ln th tr mv fo ((fgS inp ty 1 false (sp + 1)).2.2) ((fgS inp ty 1 false (sp + 1)).2.1) (va_up td kx (hrI inp ty sp))) _ := hP
    have hD : va_D A (MW G mh md nr nc pL pG pB pk bf hi sv ch hs inp ty er wy wd rf lt ln th tr mv fo ((fgS inp ty 1 false (sp + 1)).2.2) ((fgS inp ty 1 false (sp + 1)).2.1) (va_up td kx (hrI inp ty sp))) := hD
    refine r_iast hx hb hK hP hD hS 9 3 rfl rfl (by omega) (by decide) dX5_readsOrder_140 (fun H locs hP hD hS => ?_)
    have hP : va_P G.1 CL (MW G mh md nr nc pL pG pB pk bf hi sv ch hs inp ty er wy wd rf lt ln th tr mv fo ((fgS inp ty 1 false (sp + 1)).2.2) ((fgS inp ty 1 false (sp + 1)).2.1) (va_up (va_up td kx (hrI inp ty sp)) (kx + 1) (nI ((fgS inp ty 1 false (sp + 1)).1)))) _ := hP
    have hD : va_D A (MW G mh md nr nc pL pG pB pk bf hi sv ch hs inp ty er wy wd rf lt ln th tr mv fo ((fgS inp ty 1 false (sp + 1)).2.2) ((fgS inp ty 1 false (sp + 1)).2.1) (va_up (va_up td kx (hrI inp ty sp)) (kx + 1) (nI ((fgS inp ty 1 false (sp + 1)).1)))) := hD
    have g1 := fgS_le (t := inp) (m := 1) (w := false) hn1
    refine lv_aload_n hx hb dX5_readsOrder_141 rfl (lv_at hl 1 rfl) ?_
    refine va_get (D := G.1) (ci := 4) (v := .ref (md 8)) (C := RX5) (T := TX5) (N := 21) hx hb hts in_X5 hown hK hP 0 rfl rfl 20 (by decide) (hts _ q1747) (fun _ h9 => h9) rfl dX5_readsOrder_142 ?_
    refine lv_iload_n hx hb dX5_readsOrder_145 rfl (lv_at hl 2 rfl) ?_
    refine lv_iconst (v := nI 2) hx hb dX5_readsOrder_146 (by decide) ?_
    refine n_iadd hx hb dX5_readsOrder_147 ?_
    refine lv_aload_n hx hb dX5_readsOrder_148 rfl (lv_at hl 1 rfl) ?_
    refine lv_iconst (v := nI 1) hx hb dX5_readsOrder_149 (by decide) ?_
    refine callVi (As := [.int (nI 1)]) (rest := [.int (nI (kx + 2)), .ref (md 8)]) (wc := (MW G mh md nr nc pL pG pB pk bf hi sv ch hs inp ty er wy wd rf lt ln th tr mv fo ((fgS inp ty 1 false (sp + 1)).2.2) ((fgS inp ty 1 false (sp + 1)).2.1) (va_up (va_up td kx (hrI inp ty sp)) (kx + 1) (nI ((fgS inp ty 1 false (sp + 1)).1))))) (wr := ([] : va_W)) ⟨hx, hb, hml, hown, hts⟩ (m_X5_figures l G mh md nr nc pL pG pB pk bf hi sv ch hs inp ty er wy wd rf lt ln th tr mv fo ((fgS inp ty 1 false (sp + 1)).2.2) ((fgS inp ty 1 false (sp + 1)).2.1) (va_up (va_up td kx (hrI inp ty sp)) (kx + 1) (nI ((fgS inp ty 1 false (sp + 1)).1))) 1 (by first | exact hn1 | exact g1.2 | exact g2.2) (by first | assumption | omega) (by first | assumption | omega) (by first | assumption | omega)) (cwV 1 hts (lw_V q2121 q2123 qs82 q105 q2124) rfl rfl rfl (by decide +kernel) ⟨Nat.le_of_ble_eq_true rfl, Nat.le_of_ble_eq_true rfl⟩) hK hZ hA hP hD hS [0, 1, 2, 3, 4, 5, 6, 7, 8, 9] [] rfl rfl (by decide) (by decide) (by decide) 0 4 rfl rfl rfl hl.1 (Nat.le_of_ble_eq_true rfl) ⟨Nat.le_of_ble_eq_true rfl, Nat.le_of_ble_eq_true rfl⟩ rfl dX5_readsOrder_150 (fun r9 u9 H locs hw9 hP hD hS => ?_)
    subst hw9
    have hP : va_P G.1 CL (MW G mh md nr nc pL pG pB pk bf hi sv ch hs inp ty er wy wd rf lt ln th tr mv fo ((fgS inp ty 1 ((fgS inp ty 1 false (sp + 1)).2.1) ((fgS inp ty 1 false (sp + 1)).2.2)).2.2) ((fgS inp ty 1 ((fgS inp ty 1 false (sp + 1)).2.1) ((fgS inp ty 1 false (sp + 1)).2.2)).2.1) (va_up (va_up td kx (hrI inp ty sp)) (kx + 1) (nI ((fgS inp ty 1 false (sp + 1)).1)))) _ := hP
    have hD : va_D A (MW G mh md nr nc pL pG pB pk bf hi sv ch hs inp ty er wy wd rf lt ln th tr mv fo ((fgS inp ty 1 ((fgS inp ty 1 false (sp + 1)).2.1) ((fgS inp ty 1 false (sp + 1)).2.2)).2.2) ((fgS inp ty 1 ((fgS inp ty 1 false (sp + 1)).2.1) ((fgS inp ty 1 false (sp + 1)).2.2)).2.1) (va_up (va_up td kx (hrI inp ty sp)) (kx + 1) (nI ((fgS inp ty 1 false (sp + 1)).1)))) := hD
    refine r_iast hx hb hK hP hD hS 9 3 rfl rfl (by omega) (by decide) dX5_readsOrder_153 (fun H locs hP hD hS => ?_)
    have hP : va_P G.1 CL (MW G mh md nr nc pL pG pB pk bf hi sv ch hs inp ty er wy wd rf lt ln th tr mv fo ((fgS inp ty 1 ((fgS inp ty 1 false (sp + 1)).2.1) ((fgS inp ty 1 false (sp + 1)).2.2)).2.2) ((fgS inp ty 1 ((fgS inp ty 1 false (sp + 1)).2.1) ((fgS inp ty 1 false (sp + 1)).2.2)).2.1) (va_up (va_up (va_up td kx (hrI inp ty sp)) (kx + 1) (nI ((fgS inp ty 1 false (sp + 1)).1))) (kx + 2) (nI ((fgS inp ty 1 ((fgS inp ty 1 false (sp + 1)).2.1) ((fgS inp ty 1 false (sp + 1)).2.2)).1)))) _ := hP
    have hD : va_D A (MW G mh md nr nc pL pG pB pk bf hi sv ch hs inp ty er wy wd rf lt ln th tr mv fo ((fgS inp ty 1 ((fgS inp ty 1 false (sp + 1)).2.1) ((fgS inp ty 1 false (sp + 1)).2.2)).2.2) ((fgS inp ty 1 ((fgS inp ty 1 false (sp + 1)).2.1) ((fgS inp ty 1 false (sp + 1)).2.2)).2.1) (va_up (va_up (va_up td kx (hrI inp ty sp)) (kx + 1) (nI ((fgS inp ty 1 false (sp + 1)).1))) (kx + 2) (nI ((fgS inp ty 1 ((fgS inp ty 1 false (sp + 1)).2.1) ((fgS inp ty 1 false (sp + 1)).2.2)).1)))) := hD
    refine lv_goto (tgt := 278) hx hb dX5_readsOrder_154 (by decide) ?_
    subst hQ
    rw [ordP_bs (Or.inl k23_98)]
    exact ret_v hx hb hr hlk (va_up (va_up (va_up td kx (hrI inp ty sp)) (kx + 1) (nI ((fgS inp ty 1 false (sp + 1)).1))) (kx + 2) (nI ((fgS inp ty 1 ((fgS inp ty 1 false (sp + 1)).2.1) ((fgS inp ty 1 false (sp + 1)).2.2)).1))) ⟨fun _ => HX3.1, HX3.2⟩ hP hD hS dX5_readsOrder_278
  · skip
    by_cases k23_99 : (hrI inp ty sp) = nI 99
    · skip
      refine lv_tableIn (off := 240) (tgt := 263) hx hb dX5_readsOrder_23 (by rw [k23_99]; decide) (by rw [k23_99]; decide) (by rw [k23_99]; decide) (by decide) ?_
      refine lv_aload_n hx hb dX5_readsOrder_263 rfl (lv_at hl 1 rfl) ?_
      refine lv_iconst (v := nI 1) hx hb dX5_readsOrder_264 (by decide) ?_
      refine va_put (D := G.1) (ci := 4) (v := .int (bI true)) (ty := .boolean) (C := RX5) (T := TX5) (N := 21) hx hb hts in_X5 tyX5 tyX5_ok nmX5 hown hK hP hD hS 0 rfl rfl 19 (by decide) (hts _ q1746) (fun _ h9 => h9) rfl (by decide +kernel) (bI_nar _) rfl (Nat.le_of_ble_eq_true rfl) dX5_readsOrder_265 (fun H locs hP hD hS => ?_)
      have hP : va_P G.1 CL (MW G mh md nr nc pL pG pB pk bf hi sv ch hs inp ty er wy wd rf lt ln th tr mv fo (sp + 1) true (va_up td kx (hrI inp ty sp))) _ := hP
      have hD : va_D A (MW G mh md nr nc pL pG pB pk bf hi sv ch hs inp ty er wy wd rf lt ln th tr mv fo (sp + 1) true (va_up td kx (hrI inp ty sp))) := hD
      refine lv_aload_n hx hb dX5_readsOrder_268 rfl (lv_at hl 1 rfl) ?_
      refine lv_dup hx hb dX5_readsOrder_269 rfl ?_
      refine va_get (D := G.1) (ci := 4) (v := .int (nI (sp + 1))) (C := RX5) (T := TX5) (N := 21) hx hb hts in_X5 hown hK hP 0 rfl rfl 18 (by decide) (hts _ q1745) (fun _ h9 => h9) rfl dX5_readsOrder_270 ?_
      refine lv_iconst (v := nI 1) hx hb dX5_readsOrder_273 (by decide) ?_
      refine n_isub hx hb (by omega) dX5_readsOrder_274 ?_
      refine va_put (D := G.1) (ci := 4) (v := .int (nI ((sp + 1) - 1))) (ty := .int) (C := RX5) (T := TX5) (N := 21) hx hb hts in_X5 tyX5 tyX5_ok nmX5 hown hK hP hD hS 0 rfl rfl 18 (by decide) (hts _ q1745) (fun _ h9 => h9) rfl (by decide +kernel) rfl rfl (Nat.le_of_ble_eq_true rfl) dX5_readsOrder_275 (fun H locs hP hD hS => ?_)
      have hP : va_P G.1 CL (MW G mh md nr nc pL pG pB pk bf hi sv ch hs inp ty er wy wd rf lt ln th tr mv fo ((sp + 1) - 1) true (va_up td kx (hrI inp ty sp))) _ := hP
      have hD : va_D A (MW G mh md nr nc pL pG pB pk bf hi sv ch hs inp ty er wy wd rf lt ln th tr mv fo ((sp + 1) - 1) true (va_up td kx (hrI inp ty sp))) := hD
      subst hQ
      rw [ordP_d (by first | assumption | (rw [show hrI inp ty sp = nI _ by assumption]; decide)) (by first | assumption | (rw [show hrI inp ty sp = nI _ by assumption]; decide)) (by first | assumption | (rw [show hrI inp ty sp = nI _ by assumption]; decide)) (by first | assumption | (rw [show hrI inp ty sp = nI _ by assumption]; decide)) (by first | assumption | (rw [show hrI inp ty sp = nI _ by assumption]; decide)) (by first | assumption | (rw [show hrI inp ty sp = nI _ by assumption]; decide)) (by first | assumption | (rw [show hrI inp ty sp = nI _ by assumption]; decide))]
      exact ret_v hx hb hr hlk (va_up td kx (hrI inp ty sp)) ⟨fun h9 => absurd (show true = false from h9) (by decide), HX1⟩ hP hD hS dX5_readsOrder_278
    · skip
      by_cases k23_100 : (hrI inp ty sp) = nI 100
      · skip
        refine lv_tableIn (off := 240) (tgt := 263) hx hb dX5_readsOrder_23 (by rw [k23_100]; decide) (by rw [k23_100]; decide) (by rw [k23_100]; decide) (by decide) ?_
        refine lv_aload_n hx hb dX5_readsOrder_263 rfl (lv_at hl 1 rfl) ?_
        refine lv_iconst (v := nI 1) hx hb dX5_readsOrder_264 (by decide) ?_
        refine va_put (D := G.1) (ci := 4) (v := .int (bI true)) (ty := .boolean) (C := RX5) (T := TX5) (N := 21) hx hb hts in_X5 tyX5 tyX5_ok nmX5 hown hK hP hD hS 0 rfl rfl 19 (by decide) (hts _ q1746) (fun _ h9 => h9) rfl (by decide +kernel) (bI_nar _) rfl (Nat.le_of_ble_eq_true rfl) dX5_readsOrder_265 (fun H locs hP hD hS => ?_)
        have hP : va_P G.1 CL (MW G mh md nr nc pL pG pB pk bf hi sv ch hs inp ty er wy wd rf lt ln th tr mv fo (sp + 1) true (va_up td kx (hrI inp ty sp))) _ := hP
        have hD : va_D A (MW G mh md nr nc pL pG pB pk bf hi sv ch hs inp ty er wy wd rf lt ln th tr mv fo (sp + 1) true (va_up td kx (hrI inp ty sp))) := hD
        refine lv_aload_n hx hb dX5_readsOrder_268 rfl (lv_at hl 1 rfl) ?_
        refine lv_dup hx hb dX5_readsOrder_269 rfl ?_
        refine va_get (D := G.1) (ci := 4) (v := .int (nI (sp + 1))) (C := RX5) (T := TX5) (N := 21) hx hb hts in_X5 hown hK hP 0 rfl rfl 18 (by decide) (hts _ q1745) (fun _ h9 => h9) rfl dX5_readsOrder_270 ?_
        refine lv_iconst (v := nI 1) hx hb dX5_readsOrder_273 (by decide) ?_
        refine n_isub hx hb (by omega) dX5_readsOrder_274 ?_
        refine va_put (D := G.1) (ci := 4) (v := .int (nI ((sp + 1) - 1))) (ty := .int) (C := RX5) (T := TX5) (N := 21) hx hb hts in_X5 tyX5 tyX5_ok nmX5 hown hK hP hD hS 0 rfl rfl 18 (by decide) (hts _ q1745) (fun _ h9 => h9) rfl (by decide +kernel) rfl rfl (Nat.le_of_ble_eq_true rfl) dX5_readsOrder_275 (fun H locs hP hD hS => ?_)
        have hP : va_P G.1 CL (MW G mh md nr nc pL pG pB pk bf hi sv ch hs inp ty er wy wd rf lt ln th tr mv fo ((sp + 1) - 1) true (va_up td kx (hrI inp ty sp))) _ := hP
        have hD : va_D A (MW G mh md nr nc pL pG pB pk bf hi sv ch hs inp ty er wy wd rf lt ln th tr mv fo ((sp + 1) - 1) true (va_up td kx (hrI inp ty sp))) := hD
        subst hQ
        rw [ordP_d (by first | assumption | (rw [show hrI inp ty sp = nI _ by assumption]; decide)) (by first | assumption | (rw [show hrI inp ty sp = nI _ by assumption]; decide)) (by first | assumption | (rw [show hrI inp ty sp = nI _ by assumption]; decide)) (by first | assumption | (rw [show hrI inp ty sp = nI _ by assumption]; decide)) (by first | assumption | (rw [show hrI inp ty sp = nI _ by assumption]; decide)) (by first | assumption | (rw [show hrI inp ty sp = nI _ by assumption]; decide)) (by first | assumption | (rw [show hrI inp ty sp = nI _ by assumption]; decide))]
        exact ret_v hx hb hr hlk (va_up td kx (hrI inp ty sp)) ⟨fun h9 => absurd (show true = false from h9) (by decide), HX1⟩ hP hD hS dX5_readsOrder_278
      · skip
        by_cases k23_101 : (hrI inp ty sp) = nI 101
        · skip
          refine lv_tableIn (off := 240) (tgt := 263) hx hb dX5_readsOrder_23 (by rw [k23_101]; decide) (by rw [k23_101]; decide) (by rw [k23_101]; decide) (by decide) ?_
          refine lv_aload_n hx hb dX5_readsOrder_263 rfl (lv_at hl 1 rfl) ?_
          refine lv_iconst (v := nI 1) hx hb dX5_readsOrder_264 (by decide) ?_
          refine va_put (D := G.1) (ci := 4) (v := .int (bI true)) (ty := .boolean) (C := RX5) (T := TX5) (N := 21) hx hb hts in_X5 tyX5 tyX5_ok nmX5 hown hK hP hD hS 0 rfl rfl 19 (by decide) (hts _ q1746) (fun _ h9 => h9) rfl (by decide +kernel) (bI_nar _) rfl (Nat.le_of_ble_eq_true rfl) dX5_readsOrder_265 (fun H locs hP hD hS => ?_)
          have hP : va_P G.1 CL (MW G mh md nr nc pL pG pB pk bf hi sv ch hs inp ty er wy wd rf lt ln th tr mv fo (sp + 1) true (va_up td kx (hrI inp ty sp))) _ := hP
          have hD : va_D A (MW G mh md nr nc pL pG pB pk bf hi sv ch hs inp ty er wy wd rf lt ln th tr mv fo (sp + 1) true (va_up td kx (hrI inp ty sp))) := hD
          refine lv_aload_n hx hb dX5_readsOrder_268 rfl (lv_at hl 1 rfl) ?_
          refine lv_dup hx hb dX5_readsOrder_269 rfl ?_
          refine va_get (D := G.1) (ci := 4) (v := .int (nI (sp + 1))) (C := RX5) (T := TX5) (N := 21) hx hb hts in_X5 hown hK hP 0 rfl rfl 18 (by decide) (hts _ q1745) (fun _ h9 => h9) rfl dX5_readsOrder_270 ?_
          refine lv_iconst (v := nI 1) hx hb dX5_readsOrder_273 (by decide) ?_
          refine n_isub hx hb (by omega) dX5_readsOrder_274 ?_
          refine va_put (D := G.1) (ci := 4) (v := .int (nI ((sp + 1) - 1))) (ty := .int) (C := RX5) (T := TX5) (N := 21) hx hb hts in_X5 tyX5 tyX5_ok nmX5 hown hK hP hD hS 0 rfl rfl 18 (by decide) (hts _ q1745) (fun _ h9 => h9) rfl (by decide +kernel) rfl rfl (Nat.le_of_ble_eq_true rfl) dX5_readsOrder_275 (fun H locs hP hD hS => ?_)
          have hP : va_P G.1 CL (MW G mh md nr nc pL pG pB pk bf hi sv ch hs inp ty er wy wd rf lt ln th tr mv fo ((sp + 1) - 1) true (va_up td kx (hrI inp ty sp))) _ := hP
          have hD : va_D A (MW G mh md nr nc pL pG pB pk bf hi sv ch hs inp ty er wy wd rf lt ln th tr mv fo ((sp + 1) - 1) true (va_up td kx (hrI inp ty sp))) := hD
          subst hQ
          rw [ordP_d (by first | assumption | (rw [show hrI inp ty sp = nI _ by assumption]; decide)) (by first | assumption | (rw [show hrI inp ty sp = nI _ by assumption]; decide)) (by first | assumption | (rw [show hrI inp ty sp = nI _ by assumption]; decide)) (by first | assumption | (rw [show hrI inp ty sp = nI _ by assumption]; decide)) (by first | assumption | (rw [show hrI inp ty sp = nI _ by assumption]; decide)) (by first | assumption | (rw [show hrI inp ty sp = nI _ by assumption]; decide)) (by first | assumption | (rw [show hrI inp ty sp = nI _ by assumption]; decide))]
          exact ret_v hx hb hr hlk (va_up td kx (hrI inp ty sp)) ⟨fun h9 => absurd (show true = false from h9) (by decide), HX1⟩ hP hD hS dX5_readsOrder_278
        · skip
          by_cases k23_102 : (hrI inp ty sp) = nI 102
          · skip
            refine lv_tableIn (off := 240) (tgt := 263) hx hb dX5_readsOrder_23 (by rw [k23_102]; decide) (by rw [k23_102]; decide) (by rw [k23_102]; decide) (by decide) ?_
            refine lv_aload_n hx hb dX5_readsOrder_263 rfl (lv_at hl 1 rfl) ?_
            refine lv_iconst (v := nI 1) hx hb dX5_readsOrder_264 (by decide) ?_
            refine va_put (D := G.1) (ci := 4) (v := .int (bI true)) (ty := .boolean) (C := RX5) (T := TX5) (N := 21) hx hb hts in_X5 tyX5 tyX5_ok nmX5 hown hK hP hD hS 0 rfl rfl 19 (by decide) (hts _ q1746) (fun _ h9 => h9) rfl (by decide +kernel) (bI_nar _) rfl (Nat.le_of_ble_eq_true rfl) dX5_readsOrder_265 (fun H locs hP hD hS => ?_)
            have hP : va_P G.1 CL (MW G mh md nr nc pL pG pB pk bf hi sv ch hs inp ty er wy wd rf lt ln th tr mv fo (sp + 1) true (va_up td kx (hrI inp ty sp))) _ := hP
            have hD : va_D A (MW G mh md nr nc pL pG pB pk bf hi sv ch hs inp ty er wy wd rf lt ln th tr mv fo (sp + 1) true (va_up td kx (hrI inp ty sp))) := hD
            refine lv_aload_n hx hb dX5_readsOrder_268 rfl (lv_at hl 1 rfl) ?_
            refine lv_dup hx hb dX5_readsOrder_269 rfl ?_
            refine va_get (D := G.1) (ci := 4) (v := .int (nI (sp + 1))) (C := RX5) (T := TX5) (N := 21) hx hb hts in_X5 hown hK hP 0 rfl rfl 18 (by decide) (hts _ q1745) (fun _ h9 => h9) rfl dX5_readsOrder_270 ?_
            refine lv_iconst (v := nI 1) hx hb dX5_readsOrder_273 (by decide) ?_
            refine n_isub hx hb (by omega) dX5_readsOrder_274 ?_
            refine va_put (D := G.1) (ci := 4) (v := .int (nI ((sp + 1) - 1))) (ty := .int) (C := RX5) (T := TX5) (N := 21) hx hb hts in_X5 tyX5 tyX5_ok nmX5 hown hK hP hD hS 0 rfl rfl 18 (by decide) (hts _ q1745) (fun _ h9 => h9) rfl (by decide +kernel) rfl rfl (Nat.le_of_ble_eq_true rfl) dX5_readsOrder_275 (fun H locs hP hD hS => ?_)
            have hP : va_P G.1 CL (MW G mh md nr nc pL pG pB pk bf hi sv ch hs inp ty er wy wd rf lt ln th tr mv fo ((sp + 1) - 1) true (va_up td kx (hrI inp ty sp))) _ := hP
            have hD : va_D A (MW G mh md nr nc pL pG pB pk bf hi sv ch hs inp ty er wy wd rf lt ln th tr mv fo ((sp + 1) - 1) true (va_up td kx (hrI inp ty sp))) := hD
            subst hQ
            rw [ordP_d (by first | assumption | (rw [show hrI inp ty sp = nI _ by assumption]; decide)) (by first | assumption | (rw [show hrI inp ty sp = nI _ by assumption]; decide)) (by first | assumption | (rw [show hrI inp ty sp = nI _ by assumption]; decide)) (by first | assumption | (rw [show hrI inp ty sp = nI _ by assumption]; decide)) (by first | assumption | (rw [show hrI inp ty sp = nI _ by assumption]; decide)) (by first | assumption | (rw [show hrI inp ty sp = nI _ by assumption]; decide)) (by first | assumption | (rw [show hrI inp ty sp = nI _ by assumption]; decide))]
            exact ret_v hx hb hr hlk (va_up td kx (hrI inp ty sp)) ⟨fun h9 => absurd (show true = false from h9) (by decide), HX1⟩ hP hD hS dX5_readsOrder_278
          · skip
            by_cases k23_103 : (hrI inp ty sp) = nI 103
            · skip
              refine lv_tableIn (off := 134) (tgt := 157) hx hb dX5_readsOrder_23 (by rw [k23_103]; decide) (by rw [k23_103]; decide) (by rw [k23_103]; decide) (by decide) ?_
              have hn1 : sp + 1 ≤ ty := hrI_lt (show hrI inp ty sp = nI _ by assumption) (by decide)
              refine lv_aload_n hx hb dX5_readsOrder_157 rfl (lv_at hl 1 rfl) ?_
              refine va_get (D := G.1) (ci := 4) (v := .ref (md 8)) (C := RX5) (T := TX5) (N := 21) hx hb hts in_X5 hown hK hP 0 rfl rfl 20 (by decide) (hts _ q1747) (fun _ h9 => h9) rfl dX5_readsOrder_158 ?_
              refine lv_iload_n hx hb dX5_readsOrder_161 rfl (lv_at hl 2 rfl) ?_
              refine lv_iconst (v := nI 1) hx hb dX5_readsOrder_162 (by decide) ?_
              refine n_iadd hx hb dX5_readsOrder_163 ?_
              refine lv_aload_n hx hb dX5_readsOrder_164 rfl (lv_at hl 1 rfl) ?_
              refine lv_iconst (v := nI 1) hx hb dX5_readsOrder_165 (by decide) ?_
              refine callVi (As := [.int (nI 1)]) (rest := [.int (nI (kx + 1)), .ref (md 8)]) (wc := (MW G mh md nr nc pL pG pB pk bf hi sv ch hs inp ty er wy wd rf lt ln th tr mv fo (sp + 1) false (va_up td kx (hrI inp ty sp)))) (wr := ([] : va_W)) ⟨hx, hb, hml, hown, hts⟩ (m_X5_figures l G mh md nr nc pL pG pB pk bf hi sv ch hs inp ty er wy wd rf lt ln th tr mv fo (sp + 1) false (va_up td kx (hrI inp ty sp)) 1 (by first | exact hn1 | exact g1.2 | exact g2.2) (by first | assumption | omega) (by first | assumption | omega) (by first | assumption | omega)) (cwV 1 hts (lw_V q2121 q2123 qs82 q105 q2124) rfl rfl rfl (by decide +kernel) ⟨Nat.le_of_ble_eq_true rfl, Nat.le_of_ble_eq_true rfl⟩) hK hZ hA hP hD hS [0, 1, 2, 3, 4, 5, 6, 7, 8, 9] [] rfl rfl (by decide) (by decide) (by decide) 0 4 rfl rfl rfl hl.1 (Nat.le_of_ble_eq_true rfl) ⟨Nat.le_of_ble_eq_true rfl, Nat.le_of_ble_eq_true rfl⟩ rfl dX5_readsOrder_166 (fun r9 u9 H locs hw9 hP hD hS => ?_)
              subst hw9
              have hP : va_P G.1 CL (MW G mh md nr nc pL pG pB pk bf hi sv ch hs inp ty er wy wd rf lt ln th tr mv fo ((fgS inp ty 1 false (sp + 1)).2.2) ((fgS inp ty 1 false (sp + 1)).2.1) (va_up td kx (hrI inp ty sp))) _ := hP
              have hD : va_D A (MW G mh md nr nc pL pG pB pk bf hi sv ch hs inp ty er wy wd rf lt ln th tr mv fo ((fgS inp ty 1 false (sp + 1)).2.2) ((fgS inp ty 1 false (sp + 1)).2.1) (va_up td kx (hrI inp ty sp))) := hD
              refine r_iast hx hb hK hP hD hS 9 3 rfl rfl (by omega) (by decide) dX5_readsOrder_169 (fun H locs hP hD hS => ?_)
              have hP : va_P G.1 CL (MW G mh md nr nc pL pG pB pk bf hi sv ch hs inp ty er wy wd rf lt ln th tr mv fo ((fgS inp ty 1 false (sp + 1)).2.2) ((fgS inp ty 1 false (sp + 1)).2.1) (va_up (va_up td kx (hrI inp ty sp)) (kx + 1) (nI ((fgS inp ty 1 false (sp + 1)).1)))) _ := hP
              have hD : va_D A (MW G mh md nr nc pL pG pB pk bf hi sv ch hs inp ty er wy wd rf lt ln th tr mv fo ((fgS inp ty 1 false (sp + 1)).2.2) ((fgS inp ty 1 false (sp + 1)).2.1) (va_up (va_up td kx (hrI inp ty sp)) (kx + 1) (nI ((fgS inp ty 1 false (sp + 1)).1)))) := hD
              have g1 := fgS_le (t := inp) (m := 1) (w := false) hn1
              refine lv_aload_n hx hb dX5_readsOrder_170 rfl (lv_at hl 1 rfl) ?_
              refine va_get (D := G.1) (ci := 4) (v := .ref (md 8)) (C := RX5) (T := TX5) (N := 21) hx hb hts in_X5 hown hK hP 0 rfl rfl 20 (by decide) (hts _ q1747) (fun _ h9 => h9) rfl dX5_readsOrder_171 ?_
              refine lv_iload_n hx hb dX5_readsOrder_174 rfl (lv_at hl 2 rfl) ?_
              refine lv_iconst (v := nI 2) hx hb dX5_readsOrder_175 (by decide) ?_
              refine n_iadd hx hb dX5_readsOrder_176 ?_
              refine lv_aload_n hx hb dX5_readsOrder_177 rfl (lv_at hl 1 rfl) ?_
              refine lv_iload_n hx hb dX5_readsOrder_178 rfl (lv_at hl 0 rfl) ?_
              refine lv_bipush (v := nI 103) hx hb dX5_readsOrder_179 (by decide) ?_
              refine lv_icmp_ne (tgt := 188) hx hb dX5_readsOrder_181 (by decide) (fun c181 => ?_) (fun c181 => ?_)
              · skip
                exact absurd k23_103 c181
              · skip
                refine lv_iconst (v := nI 1) hx hb dX5_readsOrder_184 (by decide) ?_
                refine lv_goto (tgt := 189) hx hb dX5_readsOrder_185 (by decide) ?_
                refine callVi (As := [.int (nI 1)]) (rest := [.int (nI (kx + 2)), .ref (md 8)]) (wc := (MW G mh md nr nc pL pG pB pk bf hi sv ch hs inp ty er wy wd rf lt ln th tr mv fo ((fgS inp ty 1 false (sp + 1)).2.2) ((fgS inp ty 1 false (sp + 1)).2.1) (va_up (va_up td kx (hrI inp ty sp)) (kx + 1) (nI ((fgS inp ty 1 false (sp + 1)).1))))) (wr := ([] : va_W)) ⟨hx, hb, hml, hown, hts⟩ (m_X5_readsSign l G mh md nr nc pL pG pB pk bf hi sv ch hs inp ty er wy wd rf lt ln th tr mv fo ((fgS inp ty 1 false (sp + 1)).2.2) ((fgS inp ty 1 false (sp + 1)).2.1) (va_up (va_up td kx (hrI inp ty sp)) (kx + 1) (nI ((fgS inp ty 1 false (sp + 1)).1))) true (by first | exact hn1 | exact g1.2 | exact g2.2) (by first | assumption | omega)) (cwV 1 hts (lw_V q2125 q2127 qs83 q105 q2128) rfl rfl rfl (by decide +kernel) ⟨Nat.le_of_ble_eq_true rfl, Nat.le_of_ble_eq_true rfl⟩) hK hZ hA hP hD hS [0, 1, 2, 3, 4, 5, 6, 7, 8, 9] [] rfl rfl (by decide) (by decide) (by decide) 0 4 rfl rfl rfl hl.1 (Nat.le_of_ble_eq_true rfl) ⟨Nat.le_of_ble_eq_true rfl, Nat.le_of_ble_eq_true rfl⟩ rfl dX5_readsOrder_189 (fun r9 u9 H locs hw9 hP hD hS => ?_)
                subst hw9
                have hP : va_P G.1 CL (MW G mh md nr nc pL pG pB pk bf hi sv ch hs inp ty er wy wd rf lt ln th tr mv fo (sgS inp ty true ((fgS inp ty 1 false (sp + 1)).2.1) ((fgS inp ty 1 false (sp + 1)).2.2)) (sgW inp ty true ((fgS inp ty 1 false (sp + 1)).2.1) ((fgS inp ty 1 false (sp + 1)).2.2)) (va_up (va_up td kx (hrI inp ty sp)) (kx + 1) (nI ((fgS inp ty 1 false (sp + 1)).1)))) _ := hP
                have hD : va_D A (MW G mh md nr nc pL pG pB pk bf hi sv ch hs inp ty er wy wd rf lt ln th tr mv fo (sgS inp ty true ((fgS inp ty 1 false (sp + 1)).2.1) ((fgS inp ty 1 false (sp + 1)).2.2)) (sgW inp ty true ((fgS inp ty 1 false (sp + 1)).2.1) ((fgS inp ty 1 false (sp + 1)).2.2)) (va_up (va_up td kx (hrI inp ty sp)) (kx + 1) (nI ((fgS inp ty 1 false (sp + 1)).1)))) := hD
                refine r_iast hx hb hK hP hD hS 9 3 rfl rfl (by omega) (by decide) dX5_readsOrder_192 (fun H locs hP hD hS => ?_)
                have hP : va_P G.1 CL (MW G mh md nr nc pL pG pB pk bf hi sv ch hs inp ty er wy wd rf lt ln th tr mv fo (sgS inp ty true ((fgS inp ty 1 false (sp + 1)).2.1) ((fgS inp ty 1 false (sp + 1)).2.2)) (sgW inp ty true ((fgS inp ty 1 false (sp + 1)).2.1) ((fgS inp ty 1 false (sp + 1)).2.2)) (va_up (va_up (va_up td kx (hrI inp ty sp)) (kx + 1) (nI ((fgS inp ty 1 false (sp + 1)).1))) (kx + 2) (hrI inp ty ((fgS inp ty 1 false (sp + 1)).2.2)))) _ := hP
                have hD : va_D A (MW G mh md nr nc pL pG pB pk bf hi sv ch hs inp ty er wy wd rf lt ln th tr mv fo (sgS inp ty true ((fgS inp ty 1 false (sp + 1)).2.1) ((fgS inp ty 1 false (sp + 1)).2.2)) (sgW inp ty true ((fgS inp ty 1 false (sp + 1)).2.1) ((fgS inp ty 1 false (sp + 1)).2.2)) (va_up (va_up (va_up td kx (hrI inp ty sp)) (kx + 1) (nI ((fgS inp ty 1 false (sp + 1)).1))) (kx + 2) (hrI inp ty ((fgS inp ty 1 false (sp + 1)).2.2)))) := hD
                refine lv_goto (tgt := 278) hx hb dX5_readsOrder_193 (by decide) ?_
                subst hQ
                rw [ordP_pg (Or.inr k23_103)]
                rw [decide_eq_true k23_103]
                exact ret_v hx hb hr hlk (va_up (va_up (va_up td kx (hrI inp ty sp)) (kx + 1) (nI ((fgS inp ty 1 false (sp + 1)).1))) (kx + 2) (hrI inp ty ((fgS inp ty 1 false (sp + 1)).2.2))) ⟨fun _ => HX3.1, HX3.2⟩ hP hD hS dX5_readsOrder_278
            · skip
              by_cases k23_104 : (hrI inp ty sp) = nI 104
              · skip
                refine lv_tableIn (off := 240) (tgt := 263) hx hb dX5_readsOrder_23 (by rw [k23_104]; decide) (by rw [k23_104]; decide) (by rw [k23_104]; decide) (by decide) ?_
                refine lv_aload_n hx hb dX5_readsOrder_263 rfl (lv_at hl 1 rfl) ?_
                refine lv_iconst (v := nI 1) hx hb dX5_readsOrder_264 (by decide) ?_
                refine va_put (D := G.1) (ci := 4) (v := .int (bI true)) (ty := .boolean) (C := RX5) (T := TX5) (N := 21) hx hb hts in_X5 tyX5 tyX5_ok nmX5 hown hK hP hD hS 0 rfl rfl 19 (by decide) (hts _ q1746) (fun _ h9 => h9) rfl (by decide +kernel) (bI_nar _) rfl (Nat.le_of_ble_eq_true rfl) dX5_readsOrder_265 (fun H locs hP hD hS => ?_)
                have hP : va_P G.1 CL (MW G mh md nr nc pL pG pB pk bf hi sv ch hs inp ty er wy wd rf lt ln th tr mv fo (sp + 1) true (va_up td kx (hrI inp ty sp))) _ := hP
                have hD : va_D A (MW G mh md nr nc pL pG pB pk bf hi sv ch hs inp ty er wy wd rf lt ln th tr mv fo (sp + 1) true (va_up td kx (hrI inp ty sp))) := hD
                refine lv_aload_n hx hb dX5_readsOrder_268 rfl (lv_at hl 1 rfl) ?_
                refine lv_dup hx hb dX5_readsOrder_269 rfl ?_
                refine va_get (D := G.1) (ci := 4) (v := .int (nI (sp + 1))) (C := RX5) (T := TX5) (N := 21) hx hb hts in_X5 hown hK hP 0 rfl rfl 18 (by decide) (hts _ q1745) (fun _ h9 => h9) rfl dX5_readsOrder_270 ?_
                refine lv_iconst (v := nI 1) hx hb dX5_readsOrder_273 (by decide) ?_
                refine n_isub hx hb (by omega) dX5_readsOrder_274 ?_
                refine va_put (D := G.1) (ci := 4) (v := .int (nI ((sp + 1) - 1))) (ty := .int) (C := RX5) (T := TX5) (N := 21) hx hb hts in_X5 tyX5 tyX5_ok nmX5 hown hK hP hD hS 0 rfl rfl 18 (by decide) (hts _ q1745) (fun _ h9 => h9) rfl (by decide +kernel) rfl rfl (Nat.le_of_ble_eq_true rfl) dX5_readsOrder_275 (fun H locs hP hD hS => ?_)
                have hP : va_P G.1 CL (MW G mh md nr nc pL pG pB pk bf hi sv ch hs inp ty er wy wd rf lt ln th tr mv fo ((sp + 1) - 1) true (va_up td kx (hrI inp ty sp))) _ := hP
                have hD : va_D A (MW G mh md nr nc pL pG pB pk bf hi sv ch hs inp ty er wy wd rf lt ln th tr mv fo ((sp + 1) - 1) true (va_up td kx (hrI inp ty sp))) := hD
                subst hQ
                rw [ordP_d (by first | assumption | (rw [show hrI inp ty sp = nI _ by assumption]; decide)) (by first | assumption | (rw [show hrI inp ty sp = nI _ by assumption]; decide)) (by first | assumption | (rw [show hrI inp ty sp = nI _ by assumption]; decide)) (by first | assumption | (rw [show hrI inp ty sp = nI _ by assumption]; decide)) (by first | assumption | (rw [show hrI inp ty sp = nI _ by assumption]; decide)) (by first | assumption | (rw [show hrI inp ty sp = nI _ by assumption]; decide)) (by first | assumption | (rw [show hrI inp ty sp = nI _ by assumption]; decide))]
                exact ret_v hx hb hr hlk (va_up td kx (hrI inp ty sp)) ⟨fun h9 => absurd (show true = false from h9) (by decide), HX1⟩ hP hD hS dX5_readsOrder_278
              · skip
                by_cases k23_105 : (hrI inp ty sp) = nI 105
                · skip
                  refine lv_tableIn (off := 240) (tgt := 263) hx hb dX5_readsOrder_23 (by rw [k23_105]; decide) (by rw [k23_105]; decide) (by rw [k23_105]; decide) (by decide) ?_
                  refine lv_aload_n hx hb dX5_readsOrder_263 rfl (lv_at hl 1 rfl) ?_
                  refine lv_iconst (v := nI 1) hx hb dX5_readsOrder_264 (by decide) ?_
                  refine va_put (D := G.1) (ci := 4) (v := .int (bI true)) (ty := .boolean) (C := RX5) (T := TX5) (N := 21) hx hb hts in_X5 tyX5 tyX5_ok nmX5 hown hK hP hD hS 0 rfl rfl 19 (by decide) (hts _ q1746) (fun _ h9 => h9) rfl (by decide +kernel) (bI_nar _) rfl (Nat.le_of_ble_eq_true rfl) dX5_readsOrder_265 (fun H locs hP hD hS => ?_)
                  have hP : va_P G.1 CL (MW G mh md nr nc pL pG pB pk bf hi sv ch hs inp ty er wy wd rf lt ln th tr mv fo (sp + 1) true (va_up td kx (hrI inp ty sp))) _ := hP
                  have hD : va_D A (MW G mh md nr nc pL pG pB pk bf hi sv ch hs inp ty er wy wd rf lt ln th tr mv fo (sp + 1) true (va_up td kx (hrI inp ty sp))) := hD
                  refine lv_aload_n hx hb dX5_readsOrder_268 rfl (lv_at hl 1 rfl) ?_
                  refine lv_dup hx hb dX5_readsOrder_269 rfl ?_
                  refine va_get (D := G.1) (ci := 4) (v := .int (nI (sp + 1))) (C := RX5) (T := TX5) (N := 21) hx hb hts in_X5 hown hK hP 0 rfl rfl 18 (by decide) (hts _ q1745) (fun _ h9 => h9) rfl dX5_readsOrder_270 ?_
                  refine lv_iconst (v := nI 1) hx hb dX5_readsOrder_273 (by decide) ?_
                  refine n_isub hx hb (by omega) dX5_readsOrder_274 ?_
                  refine va_put (D := G.1) (ci := 4) (v := .int (nI ((sp + 1) - 1))) (ty := .int) (C := RX5) (T := TX5) (N := 21) hx hb hts in_X5 tyX5 tyX5_ok nmX5 hown hK hP hD hS 0 rfl rfl 18 (by decide) (hts _ q1745) (fun _ h9 => h9) rfl (by decide +kernel) rfl rfl (Nat.le_of_ble_eq_true rfl) dX5_readsOrder_275 (fun H locs hP hD hS => ?_)
                  have hP : va_P G.1 CL (MW G mh md nr nc pL pG pB pk bf hi sv ch hs inp ty er wy wd rf lt ln th tr mv fo ((sp + 1) - 1) true (va_up td kx (hrI inp ty sp))) _ := hP
                  have hD : va_D A (MW G mh md nr nc pL pG pB pk bf hi sv ch hs inp ty er wy wd rf lt ln th tr mv fo ((sp + 1) - 1) true (va_up td kx (hrI inp ty sp))) := hD
                  subst hQ
                  rw [ordP_d (by first | assumption | (rw [show hrI inp ty sp = nI _ by assumption]; decide)) (by first | assumption | (rw [show hrI inp ty sp = nI _ by assumption]; decide)) (by first | assumption | (rw [show hrI inp ty sp = nI _ by assumption]; decide)) (by first | assumption | (rw [show hrI inp ty sp = nI _ by assumption]; decide)) (by first | assumption | (rw [show hrI inp ty sp = nI _ by assumption]; decide)) (by first | assumption | (rw [show hrI inp ty sp = nI _ by assumption]; decide)) (by first | assumption | (rw [show hrI inp ty sp = nI _ by assumption]; decide))]
                  exact ret_v hx hb hr hlk (va_up td kx (hrI inp ty sp)) ⟨fun h9 => absurd (show true = false from h9) (by decide), HX1⟩ hP hD hS dX5_readsOrder_278
                · skip
                  by_cases k23_106 : (hrI inp ty sp) = nI 106
                  · skip
                    refine lv_tableIn (off := 240) (tgt := 263) hx hb dX5_readsOrder_23 (by rw [k23_106]; decide) (by rw [k23_106]; decide) (by rw [k23_106]; decide) (by decide) ?_
                    refine lv_aload_n hx hb dX5_readsOrder_263 rfl (lv_at hl 1 rfl) ?_
                    refine lv_iconst (v := nI 1) hx hb dX5_readsOrder_264 (by decide) ?_
                    refine va_put (D := G.1) (ci := 4) (v := .int (bI true)) (ty := .boolean) (C := RX5) (T := TX5) (N := 21) hx hb hts in_X5 tyX5 tyX5_ok nmX5 hown hK hP hD hS 0 rfl rfl 19 (by decide) (hts _ q1746) (fun _ h9 => h9) rfl (by decide +kernel) (bI_nar _) rfl (Nat.le_of_ble_eq_true rfl) dX5_readsOrder_265 (fun H locs hP hD hS => ?_)
                    have hP : va_P G.1 CL (MW G mh md nr nc pL pG pB pk bf hi sv ch hs inp ty er wy wd rf lt ln th tr mv fo (sp + 1) true (va_up td kx (hrI inp ty sp))) _ := hP
                    have hD : va_D A (MW G mh md nr nc pL pG pB pk bf hi sv ch hs inp ty er wy wd rf lt ln th tr mv fo (sp + 1) true (va_up td kx (hrI inp ty sp))) := hD
                    refine lv_aload_n hx hb dX5_readsOrder_268 rfl (lv_at hl 1 rfl) ?_
                    refine lv_dup hx hb dX5_readsOrder_269 rfl ?_
                    refine va_get (D := G.1) (ci := 4) (v := .int (nI (sp + 1))) (C := RX5) (T := TX5) (N := 21) hx hb hts in_X5 hown hK hP 0 rfl rfl 18 (by decide) (hts _ q1745) (fun _ h9 => h9) rfl dX5_readsOrder_270 ?_
                    refine lv_iconst (v := nI 1) hx hb dX5_readsOrder_273 (by decide) ?_
                    refine n_isub hx hb (by omega) dX5_readsOrder_274 ?_
                    refine va_put (D := G.1) (ci := 4) (v := .int (nI ((sp + 1) - 1))) (ty := .int) (C := RX5) (T := TX5) (N := 21) hx hb hts in_X5 tyX5 tyX5_ok nmX5 hown hK hP hD hS 0 rfl rfl 18 (by decide) (hts _ q1745) (fun _ h9 => h9) rfl (by decide +kernel) rfl rfl (Nat.le_of_ble_eq_true rfl) dX5_readsOrder_275 (fun H locs hP hD hS => ?_)
                    have hP : va_P G.1 CL (MW G mh md nr nc pL pG pB pk bf hi sv ch hs inp ty er wy wd rf lt ln th tr mv fo ((sp + 1) - 1) true (va_up td kx (hrI inp ty sp))) _ := hP
                    have hD : va_D A (MW G mh md nr nc pL pG pB pk bf hi sv ch hs inp ty er wy wd rf lt ln th tr mv fo ((sp + 1) - 1) true (va_up td kx (hrI inp ty sp))) := hD
                    subst hQ
                    rw [ordP_d (by first | assumption | (rw [show hrI inp ty sp = nI _ by assumption]; decide)) (by first | assumption | (rw [show hrI inp ty sp = nI _ by assumption]; decide)) (by first | assumption | (rw [show hrI inp ty sp = nI _ by assumption]; decide)) (by first | assumption | (rw [show hrI inp ty sp = nI _ by assumption]; decide)) (by first | assumption | (rw [show hrI inp ty sp = nI _ by assumption]; decide)) (by first | assumption | (rw [show hrI inp ty sp = nI _ by assumption]; decide)) (by first | assumption | (rw [show hrI inp ty sp = nI _ by assumption]; decide))]
                    exact ret_v hx hb hr hlk (va_up td kx (hrI inp ty sp)) ⟨fun h9 => absurd (show true = false from h9) (by decide), HX1⟩ hP hD hS dX5_readsOrder_278
                  · skip
                    by_cases k23_107 : (hrI inp ty sp) = nI 107
                    · skip
                      refine lv_tableIn (off := 240) (tgt := 263) hx hb dX5_readsOrder_23 (by rw [k23_107]; decide) (by rw [k23_107]; decide) (by rw [k23_107]; decide) (by decide) ?_
                      refine lv_aload_n hx hb dX5_readsOrder_263 rfl (lv_at hl 1 rfl) ?_
                      refine lv_iconst (v := nI 1) hx hb dX5_readsOrder_264 (by decide) ?_
                      refine va_put (D := G.1) (ci := 4) (v := .int (bI true)) (ty := .boolean) (C := RX5) (T := TX5) (N := 21) hx hb hts in_X5 tyX5 tyX5_ok nmX5 hown hK hP hD hS 0 rfl rfl 19 (by decide) (hts _ q1746) (fun _ h9 => h9) rfl (by decide +kernel) (bI_nar _) rfl (Nat.le_of_ble_eq_true rfl) dX5_readsOrder_265 (fun H locs hP hD hS => ?_)
                      have hP : va_P G.1 CL (MW G mh md nr nc pL pG pB pk bf hi sv ch hs inp ty er wy wd rf lt ln th tr mv fo (sp + 1) true (va_up td kx (hrI inp ty sp))) _ := hP
                      have hD : va_D A (MW G mh md nr nc pL pG pB pk bf hi sv ch hs inp ty er wy wd rf lt ln th tr mv fo (sp + 1) true (va_up td kx (hrI inp ty sp))) := hD
                      refine lv_aload_n hx hb dX5_readsOrder_268 rfl (lv_at hl 1 rfl) ?_
                      refine lv_dup hx hb dX5_readsOrder_269 rfl ?_
                      refine va_get (D := G.1) (ci := 4) (v := .int (nI (sp + 1))) (C := RX5) (T := TX5) (N := 21) hx hb hts in_X5 hown hK hP 0 rfl rfl 18 (by decide) (hts _ q1745) (fun _ h9 => h9) rfl dX5_readsOrder_270 ?_
                      refine lv_iconst (v := nI 1) hx hb dX5_readsOrder_273 (by decide) ?_
                      refine n_isub hx hb (by omega) dX5_readsOrder_274 ?_
                      refine va_put (D := G.1) (ci := 4) (v := .int (nI ((sp + 1) - 1))) (ty := .int) (C := RX5) (T := TX5) (N := 21) hx hb hts in_X5 tyX5 tyX5_ok nmX5 hown hK hP hD hS 0 rfl rfl 18 (by decide) (hts _ q1745) (fun _ h9 => h9) rfl (by decide +kernel) rfl rfl (Nat.le_of_ble_eq_true rfl) dX5_readsOrder_275 (fun H locs hP hD hS => ?_)
                      have hP : va_P G.1 CL (MW G mh md nr nc pL pG pB pk bf hi sv ch hs inp ty er wy wd rf lt ln th tr mv fo ((sp + 1) - 1) true (va_up td kx (hrI inp ty sp))) _ := hP
                      have hD : va_D A (MW G mh md nr nc pL pG pB pk bf hi sv ch hs inp ty er wy wd rf lt ln th tr mv fo ((sp + 1) - 1) true (va_up td kx (hrI inp ty sp))) := hD
                      subst hQ
                      rw [ordP_d (by first | assumption | (rw [show hrI inp ty sp = nI _ by assumption]; decide)) (by first | assumption | (rw [show hrI inp ty sp = nI _ by assumption]; decide)) (by first | assumption | (rw [show hrI inp ty sp = nI _ by assumption]; decide)) (by first | assumption | (rw [show hrI inp ty sp = nI _ by assumption]; decide)) (by first | assumption | (rw [show hrI inp ty sp = nI _ by assumption]; decide)) (by first | assumption | (rw [show hrI inp ty sp = nI _ by assumption]; decide)) (by first | assumption | (rw [show hrI inp ty sp = nI _ by assumption]; decide))]
                      exact ret_v hx hb hr hlk (va_up td kx (hrI inp ty sp)) ⟨fun h9 => absurd (show true = false from h9) (by decide), HX1⟩ hP hD hS dX5_readsOrder_278
                    · skip
                      by_cases k23_108 : (hrI inp ty sp) = nI 108
                      · skip
                        refine lv_tableIn (off := 240) (tgt := 263) hx hb dX5_readsOrder_23 (by rw [k23_108]; decide) (by rw [k23_108]; decide) (by rw [k23_108]; decide) (by decide) ?_
                        refine lv_aload_n hx hb dX5_readsOrder_263 rfl (lv_at hl 1 rfl) ?_
                        refine lv_iconst (v := nI 1) hx hb dX5_readsOrder_264 (by decide) ?_
                        refine va_put (D := G.1) (ci := 4) (v := .int (bI true)) (ty := .boolean) (C := RX5) (T := TX5) (N := 21) hx hb hts in_X5 tyX5 tyX5_ok nmX5 hown hK hP hD hS 0 rfl rfl 19 (by decide) (hts _ q1746) (fun _ h9 => h9) rfl (by decide +kernel) (bI_nar _) rfl (Nat.le_of_ble_eq_true rfl) dX5_readsOrder_265 (fun H locs hP hD hS => ?_)
                        have hP : va_P G.1 CL (MW G mh md nr nc pL pG pB pk bf hi sv ch hs inp ty er wy wd rf lt ln th tr mv fo (sp + 1) true (va_up td kx (hrI inp ty sp))) _ := hP
                        have hD : va_D A (MW G mh md nr nc pL pG pB pk bf hi sv ch hs inp ty er wy wd rf lt ln th tr mv fo (sp + 1) true (va_up td kx (hrI inp ty sp))) := hD
                        refine lv_aload_n hx hb dX5_readsOrder_268 rfl (lv_at hl 1 rfl) ?_
                        refine lv_dup hx hb dX5_readsOrder_269 rfl ?_
                        refine va_get (D := G.1) (ci := 4) (v := .int (nI (sp + 1))) (C := RX5) (T := TX5) (N := 21) hx hb hts in_X5 hown hK hP 0 rfl rfl 18 (by decide) (hts _ q1745) (fun _ h9 => h9) rfl dX5_readsOrder_270 ?_
                        refine lv_iconst (v := nI 1) hx hb dX5_readsOrder_273 (by decide) ?_
                        refine n_isub hx hb (by omega) dX5_readsOrder_274 ?_
                        refine va_put (D := G.1) (ci := 4) (v := .int (nI ((sp + 1) - 1))) (ty := .int) (C := RX5) (T := TX5) (N := 21) hx hb hts in_X5 tyX5 tyX5_ok nmX5 hown hK hP hD hS 0 rfl rfl 18 (by decide) (hts _ q1745) (fun _ h9 => h9) rfl (by decide +kernel) rfl rfl (Nat.le_of_ble_eq_true rfl) dX5_readsOrder_275 (fun H locs hP hD hS => ?_)
                        have hP : va_P G.1 CL (MW G mh md nr nc pL pG pB pk bf hi sv ch hs inp ty er wy wd rf lt ln th tr mv fo ((sp + 1) - 1) true (va_up td kx (hrI inp ty sp))) _ := hP
                        have hD : va_D A (MW G mh md nr nc pL pG pB pk bf hi sv ch hs inp ty er wy wd rf lt ln th tr mv fo ((sp + 1) - 1) true (va_up td kx (hrI inp ty sp))) := hD
                        subst hQ
                        rw [ordP_d (by first | assumption | (rw [show hrI inp ty sp = nI _ by assumption]; decide)) (by first | assumption | (rw [show hrI inp ty sp = nI _ by assumption]; decide)) (by first | assumption | (rw [show hrI inp ty sp = nI _ by assumption]; decide)) (by first | assumption | (rw [show hrI inp ty sp = nI _ by assumption]; decide)) (by first | assumption | (rw [show hrI inp ty sp = nI _ by assumption]; decide)) (by first | assumption | (rw [show hrI inp ty sp = nI _ by assumption]; decide)) (by first | assumption | (rw [show hrI inp ty sp = nI _ by assumption]; decide))]
                        exact ret_v hx hb hr hlk (va_up td kx (hrI inp ty sp)) ⟨fun h9 => absurd (show true = false from h9) (by decide), HX1⟩ hP hD hS dX5_readsOrder_278
                      · skip
                        by_cases k23_109 : (hrI inp ty sp) = nI 109
                        · skip
                          refine lv_tableIn (off := 240) (tgt := 263) hx hb dX5_readsOrder_23 (by rw [k23_109]; decide) (by rw [k23_109]; decide) (by rw [k23_109]; decide) (by decide) ?_
                          refine lv_aload_n hx hb dX5_readsOrder_263 rfl (lv_at hl 1 rfl) ?_
                          refine lv_iconst (v := nI 1) hx hb dX5_readsOrder_264 (by decide) ?_
                          refine va_put (D := G.1) (ci := 4) (v := .int (bI true)) (ty := .boolean) (C := RX5) (T := TX5) (N := 21) hx hb hts in_X5 tyX5 tyX5_ok nmX5 hown hK hP hD hS 0 rfl rfl 19 (by decide) (hts _ q1746) (fun _ h9 => h9) rfl (by decide +kernel) (bI_nar _) rfl (Nat.le_of_ble_eq_true rfl) dX5_readsOrder_265 (fun H locs hP hD hS => ?_)
                          have hP : va_P G.1 CL (MW G mh md nr nc pL pG pB pk bf hi sv ch hs inp ty er wy wd rf lt ln th tr mv fo (sp + 1) true (va_up td kx (hrI inp ty sp))) _ := hP
                          have hD : va_D A (MW G mh md nr nc pL pG pB pk bf hi sv ch hs inp ty er wy wd rf lt ln th tr mv fo (sp + 1) true (va_up td kx (hrI inp ty sp))) := hD
                          refine lv_aload_n hx hb dX5_readsOrder_268 rfl (lv_at hl 1 rfl) ?_
                          refine lv_dup hx hb dX5_readsOrder_269 rfl ?_
                          refine va_get (D := G.1) (ci := 4) (v := .int (nI (sp + 1))) (C := RX5) (T := TX5) (N := 21) hx hb hts in_X5 hown hK hP 0 rfl rfl 18 (by decide) (hts _ q1745) (fun _ h9 => h9) rfl dX5_readsOrder_270 ?_
                          refine lv_iconst (v := nI 1) hx hb dX5_readsOrder_273 (by decide) ?_
                          refine n_isub hx hb (by omega) dX5_readsOrder_274 ?_
                          refine va_put (D := G.1) (ci := 4) (v := .int (nI ((sp + 1) - 1))) (ty := .int) (C := RX5) (T := TX5) (N := 21) hx hb hts in_X5 tyX5 tyX5_ok nmX5 hown hK hP hD hS 0 rfl rfl 18 (by decide) (hts _ q1745) (fun _ h9 => h9) rfl (by decide +kernel) rfl rfl (Nat.le_of_ble_eq_true rfl) dX5_readsOrder_275 (fun H locs hP hD hS => ?_)
                          have hP : va_P G.1 CL (MW G mh md nr nc pL pG pB pk bf hi sv ch hs inp ty er wy wd rf lt ln th tr mv fo ((sp + 1) - 1) true (va_up td kx (hrI inp ty sp))) _ := hP
                          have hD : va_D A (MW G mh md nr nc pL pG pB pk bf hi sv ch hs inp ty er wy wd rf lt ln th tr mv fo ((sp + 1) - 1) true (va_up td kx (hrI inp ty sp))) := hD
                          subst hQ
                          rw [ordP_d (by first | assumption | (rw [show hrI inp ty sp = nI _ by assumption]; decide)) (by first | assumption | (rw [show hrI inp ty sp = nI _ by assumption]; decide)) (by first | assumption | (rw [show hrI inp ty sp = nI _ by assumption]; decide)) (by first | assumption | (rw [show hrI inp ty sp = nI _ by assumption]; decide)) (by first | assumption | (rw [show hrI inp ty sp = nI _ by assumption]; decide)) (by first | assumption | (rw [show hrI inp ty sp = nI _ by assumption]; decide)) (by first | assumption | (rw [show hrI inp ty sp = nI _ by assumption]; decide))]
                          exact ret_v hx hb hr hlk (va_up td kx (hrI inp ty sp)) ⟨fun h9 => absurd (show true = false from h9) (by decide), HX1⟩ hP hD hS dX5_readsOrder_278
                        · skip
                          by_cases k23_110 : (hrI inp ty sp) = nI 110
                          · skip
                            refine lv_tableIn (off := 240) (tgt := 263) hx hb dX5_readsOrder_23 (by rw [k23_110]; decide) (by rw [k23_110]; decide) (by rw [k23_110]; decide) (by decide) ?_
                            refine lv_aload_n hx hb dX5_readsOrder_263 rfl (lv_at hl 1 rfl) ?_
                            refine lv_iconst (v := nI 1) hx hb dX5_readsOrder_264 (by decide) ?_
                            refine va_put (D := G.1) (ci := 4) (v := .int (bI true)) (ty := .boolean) (C := RX5) (T := TX5) (N := 21) hx hb hts in_X5 tyX5 tyX5_ok nmX5 hown hK hP hD hS 0 rfl rfl 19 (by decide) (hts _ q1746) (fun _ h9 => h9) rfl (by decide +kernel) (bI_nar _) rfl (Nat.le_of_ble_eq_true rfl) dX5_readsOrder_265 (fun H locs hP hD hS => ?_)
                            have hP : va_P G.1 CL (MW G mh md nr nc pL pG pB pk bf hi sv ch hs inp ty er wy wd rf lt ln th tr mv fo (sp + 1) true (va_up td kx (hrI inp ty sp))) _ := hP
                            have hD : va_D A (MW G mh md nr nc pL pG pB pk bf hi sv ch hs inp ty er wy wd rf lt ln th tr mv fo (sp + 1) true (va_up td kx (hrI inp ty sp))) := hD
                            refine lv_aload_n hx hb dX5_readsOrder_268 rfl (lv_at hl 1 rfl) ?_
                            refine lv_dup hx hb dX5_readsOrder_269 rfl ?_
                            refine va_get (D := G.1) (ci := 4) (v := .int (nI (sp + 1))) (C := RX5) (T := TX5) (N := 21) hx hb hts in_X5 hown hK hP 0 rfl rfl 18 (by decide) (hts _ q1745) (fun _ h9 => h9) rfl dX5_readsOrder_270 ?_
                            refine lv_iconst (v := nI 1) hx hb dX5_readsOrder_273 (by decide) ?_
                            refine n_isub hx hb (by omega) dX5_readsOrder_274 ?_
                            refine va_put (D := G.1) (ci := 4) (v := .int (nI ((sp + 1) - 1))) (ty := .int) (C := RX5) (T := TX5) (N := 21) hx hb hts in_X5 tyX5 tyX5_ok nmX5 hown hK hP hD hS 0 rfl rfl 18 (by decide) (hts _ q1745) (fun _ h9 => h9) rfl (by decide +kernel) rfl rfl (Nat.le_of_ble_eq_true rfl) dX5_readsOrder_275 (fun H locs hP hD hS => ?_)
                            have hP : va_P G.1 CL (MW G mh md nr nc pL pG pB pk bf hi sv ch hs inp ty er wy wd rf lt ln th tr mv fo ((sp + 1) - 1) true (va_up td kx (hrI inp ty sp))) _ := hP
                            have hD : va_D A (MW G mh md nr nc pL pG pB pk bf hi sv ch hs inp ty er wy wd rf lt ln th tr mv fo ((sp + 1) - 1) true (va_up td kx (hrI inp ty sp))) := hD
                            subst hQ
                            rw [ordP_d (by first | assumption | (rw [show hrI inp ty sp = nI _ by assumption]; decide)) (by first | assumption | (rw [show hrI inp ty sp = nI _ by assumption]; decide)) (by first | assumption | (rw [show hrI inp ty sp = nI _ by assumption]; decide)) (by first | assumption | (rw [show hrI inp ty sp = nI _ by assumption]; decide)) (by first | assumption | (rw [show hrI inp ty sp = nI _ by assumption]; decide)) (by first | assumption | (rw [show hrI inp ty sp = nI _ by assumption]; decide)) (by first | assumption | (rw [show hrI inp ty sp = nI _ by assumption]; decide))]
                            exact ret_v hx hb hr hlk (va_up td kx (hrI inp ty sp)) ⟨fun h9 => absurd (show true = false from h9) (by decide), HX1⟩ hP hD hS dX5_readsOrder_278
                          · skip
                            by_cases k23_111 : (hrI inp ty sp) = nI 111
                            · skip
                              refine lv_tableIn (off := 240) (tgt := 263) hx hb dX5_readsOrder_23 (by rw [k23_111]; decide) (by rw [k23_111]; decide) (by rw [k23_111]; decide) (by decide) ?_
                              refine lv_aload_n hx hb dX5_readsOrder_263 rfl (lv_at hl 1 rfl) ?_
                              refine lv_iconst (v := nI 1) hx hb dX5_readsOrder_264 (by decide) ?_
                              refine va_put (D := G.1) (ci := 4) (v := .int (bI true)) (ty := .boolean) (C := RX5) (T := TX5) (N := 21) hx hb hts in_X5 tyX5 tyX5_ok nmX5 hown hK hP hD hS 0 rfl rfl 19 (by decide) (hts _ q1746) (fun _ h9 => h9) rfl (by decide +kernel) (bI_nar _) rfl (Nat.le_of_ble_eq_true rfl) dX5_readsOrder_265 (fun H locs hP hD hS => ?_)
                              have hP : va_P G.1 CL (MW G mh md nr nc pL pG pB pk bf hi sv ch hs inp ty er wy wd rf lt ln th tr mv fo (sp + 1) true (va_up td kx (hrI inp ty sp))) _ := hP
                              have hD : va_D A (MW G mh md nr nc pL pG pB pk bf hi sv ch hs inp ty er wy wd rf lt ln th tr mv fo (sp + 1) true (va_up td kx (hrI inp ty sp))) := hD
                              refine lv_aload_n hx hb dX5_readsOrder_268 rfl (lv_at hl 1 rfl) ?_
                              refine lv_dup hx hb dX5_readsOrder_269 rfl ?_
                              refine va_get (D := G.1) (ci := 4) (v := .int (nI (sp + 1))) (C := RX5) (T := TX5) (N := 21) hx hb hts in_X5 hown hK hP 0 rfl rfl 18 (by decide) (hts _ q1745) (fun _ h9 => h9) rfl dX5_readsOrder_270 ?_
                              refine lv_iconst (v := nI 1) hx hb dX5_readsOrder_273 (by decide) ?_
                              refine n_isub hx hb (by omega) dX5_readsOrder_274 ?_
                              refine va_put (D := G.1) (ci := 4) (v := .int (nI ((sp + 1) - 1))) (ty := .int) (C := RX5) (T := TX5) (N := 21) hx hb hts in_X5 tyX5 tyX5_ok nmX5 hown hK hP hD hS 0 rfl rfl 18 (by decide) (hts _ q1745) (fun _ h9 => h9) rfl (by decide +kernel) rfl rfl (Nat.le_of_ble_eq_true rfl) dX5_readsOrder_275 (fun H locs hP hD hS => ?_)
                              have hP : va_P G.1 CL (MW G mh md nr nc pL pG pB pk bf hi sv ch hs inp ty er wy wd rf lt ln th tr mv fo ((sp + 1) - 1) true (va_up td kx (hrI inp ty sp))) _ := hP
                              have hD : va_D A (MW G mh md nr nc pL pG pB pk bf hi sv ch hs inp ty er wy wd rf lt ln th tr mv fo ((sp + 1) - 1) true (va_up td kx (hrI inp ty sp))) := hD
                              subst hQ
                              rw [ordP_d (by first | assumption | (rw [show hrI inp ty sp = nI _ by assumption]; decide)) (by first | assumption | (rw [show hrI inp ty sp = nI _ by assumption]; decide)) (by first | assumption | (rw [show hrI inp ty sp = nI _ by assumption]; decide)) (by first | assumption | (rw [show hrI inp ty sp = nI _ by assumption]; decide)) (by first | assumption | (rw [show hrI inp ty sp = nI _ by assumption]; decide)) (by first | assumption | (rw [show hrI inp ty sp = nI _ by assumption]; decide)) (by first | assumption | (rw [show hrI inp ty sp = nI _ by assumption]; decide))]
                              exact ret_v hx hb hr hlk (va_up td kx (hrI inp ty sp)) ⟨fun h9 => absurd (show true = false from h9) (by decide), HX1⟩ hP hD hS dX5_readsOrder_278
                            · skip
                              by_cases k23_112 : (hrI inp ty sp) = nI 112
                              · skip
                                refine lv_tableIn (off := 134) (tgt := 157) hx hb dX5_readsOrder_23 (by rw [k23_112]; decide) (by rw [k23_112]; decide) (by rw [k23_112]; decide) (by decide) ?_
                                have hn1 : sp + 1 ≤ ty := hrI_lt (show hrI inp ty sp = nI _ by assumption) (by decide)
                                refine lv_aload_n hx hb dX5_readsOrder_157 rfl (lv_at hl 1 rfl) ?_
                                refine va_get (D := G.1) (ci := 4) (v := .ref (md 8)) (C := RX5) (T := TX5) (N := 21) hx hb hts in_X5 hown hK hP 0 rfl rfl 20 (by decide) (hts _ q1747) (fun _ h9 => h9) rfl dX5_readsOrder_158 ?_
                                refine lv_iload_n hx hb dX5_readsOrder_161 rfl (lv_at hl 2 rfl) ?_
                                refine lv_iconst (v := nI 1) hx hb dX5_readsOrder_162 (by decide) ?_
                                refine n_iadd hx hb dX5_readsOrder_163 ?_
                                refine lv_aload_n hx hb dX5_readsOrder_164 rfl (lv_at hl 1 rfl) ?_
                                refine lv_iconst (v := nI 1) hx hb dX5_readsOrder_165 (by decide) ?_
                                refine callVi (As := [.int (nI 1)]) (rest := [.int (nI (kx + 1)), .ref (md 8)]) (wc := (MW G mh md nr nc pL pG pB pk bf hi sv ch hs inp ty er wy wd rf lt ln th tr mv fo (sp + 1) false (va_up td kx (hrI inp ty sp)))) (wr := ([] : va_W)) ⟨hx, hb, hml, hown, hts⟩ (m_X5_figures l G mh md nr nc pL pG pB pk bf hi sv ch hs inp ty er wy wd rf lt ln th tr mv fo (sp + 1) false (va_up td kx (hrI inp ty sp)) 1 (by first | exact hn1 | exact g1.2 | exact g2.2) (by first | assumption | omega) (by first | assumption | omega) (by first | assumption | omega)) (cwV 1 hts (lw_V q2121 q2123 qs82 q105 q2124) rfl rfl rfl (by decide +kernel) ⟨Nat.le_of_ble_eq_true rfl, Nat.le_of_ble_eq_true rfl⟩) hK hZ hA hP hD hS [0, 1, 2, 3, 4, 5, 6, 7, 8, 9] [] rfl rfl (by decide) (by decide) (by decide) 0 4 rfl rfl rfl hl.1 (Nat.le_of_ble_eq_true rfl) ⟨Nat.le_of_ble_eq_true rfl, Nat.le_of_ble_eq_true rfl⟩ rfl dX5_readsOrder_166 (fun r9 u9 H locs hw9 hP hD hS => ?_)
                                subst hw9
                                have hP : va_P G.1 CL (MW G mh md nr nc pL pG pB pk bf hi sv ch hs inp ty er wy wd rf lt ln th tr mv fo ((fgS inp ty 1 false (sp + 1)).2.2) ((fgS inp ty 1 false (sp + 1)).2.1) (va_up td kx (hrI inp ty sp))) _ := hP
                                have hD : va_D A (MW G mh md nr nc pL pG pB pk bf hi sv ch hs inp ty er wy wd rf lt ln th tr mv fo ((fgS inp ty 1 false (sp + 1)).2.2) ((fgS inp ty 1 false (sp + 1)).2.1) (va_up td kx (hrI inp ty sp))) := hD
                                refine r_iast hx hb hK hP hD hS 9 3 rfl rfl (by omega) (by decide) dX5_readsOrder_169 (fun H locs hP hD hS => ?_)
                                have hP : va_P G.1 CL (MW G mh md nr nc pL pG pB pk bf hi sv ch hs inp ty er wy wd rf lt ln th tr mv fo ((fgS inp ty 1 false (sp + 1)).2.2) ((fgS inp ty 1 false (sp + 1)).2.1) (va_up (va_up td kx (hrI inp ty sp)) (kx + 1) (nI ((fgS inp ty 1 false (sp + 1)).1)))) _ := hP
                                have hD : va_D A (MW G mh md nr nc pL pG pB pk bf hi sv ch hs inp ty er wy wd rf lt ln th tr mv fo ((fgS inp ty 1 false (sp + 1)).2.2) ((fgS inp ty 1 false (sp + 1)).2.1) (va_up (va_up td kx (hrI inp ty sp)) (kx + 1) (nI ((fgS inp ty 1 false (sp + 1)).1)))) := hD
                                have g1 := fgS_le (t := inp) (m := 1) (w := false) hn1
                                refine lv_aload_n hx hb dX5_readsOrder_170 rfl (lv_at hl 1 rfl) ?_
                                refine va_get (D := G.1) (ci := 4) (v := .ref (md 8)) (C := RX5) (T := TX5) (N := 21) hx hb hts in_X5 hown hK hP 0 rfl rfl 20 (by decide) (hts _ q1747) (fun _ h9 => h9) rfl dX5_readsOrder_171 ?_
                                refine lv_iload_n hx hb dX5_readsOrder_174 rfl (lv_at hl 2 rfl) ?_
                                refine lv_iconst (v := nI 2) hx hb dX5_readsOrder_175 (by decide) ?_
                                refine n_iadd hx hb dX5_readsOrder_176 ?_
                                refine lv_aload_n hx hb dX5_readsOrder_177 rfl (lv_at hl 1 rfl) ?_
                                refine lv_iload_n hx hb dX5_readsOrder_178 rfl (lv_at hl 0 rfl) ?_
                                refine lv_bipush (v := nI 103) hx hb dX5_readsOrder_179 (by decide) ?_
                                refine lv_icmp_ne (tgt := 188) hx hb dX5_readsOrder_181 (by decide) (fun c181 => ?_) (fun c181 => ?_)
                                · skip
                                  refine lv_iconst (v := nI 0) hx hb dX5_readsOrder_188 (by decide) ?_
                                  refine callVi (As := [.int (nI 0)]) (rest := [.int (nI (kx + 2)), .ref (md 8)]) (wc := (MW G mh md nr nc pL pG pB pk bf hi sv ch hs inp ty er wy wd rf lt ln th tr mv fo ((fgS inp ty 1 false (sp + 1)).2.2) ((fgS inp ty 1 false (sp + 1)).2.1) (va_up (va_up td kx (hrI inp ty sp)) (kx + 1) (nI ((fgS inp ty 1 false (sp + 1)).1))))) (wr := ([] : va_W)) ⟨hx, hb, hml, hown, hts⟩ (m_X5_readsSign l G mh md nr nc pL pG pB pk bf hi sv ch hs inp ty er wy wd rf lt ln th tr mv fo ((fgS inp ty 1 false (sp + 1)).2.2) ((fgS inp ty 1 false (sp + 1)).2.1) (va_up (va_up td kx (hrI inp ty sp)) (kx + 1) (nI ((fgS inp ty 1 false (sp + 1)).1))) false (by first | exact hn1 | exact g1.2 | exact g2.2) (by first | assumption | omega)) (cwV 1 hts (lw_V q2125 q2127 qs83 q105 q2128) rfl rfl rfl (by decide +kernel) ⟨Nat.le_of_ble_eq_true rfl, Nat.le_of_ble_eq_true rfl⟩) hK hZ hA hP hD hS [0, 1, 2, 3, 4, 5, 6, 7, 8, 9] [] rfl rfl (by decide) (by decide) (by decide) 0 4 rfl rfl rfl hl.1 (Nat.le_of_ble_eq_true rfl) ⟨Nat.le_of_ble_eq_true rfl, Nat.le_of_ble_eq_true rfl⟩ rfl dX5_readsOrder_189 (fun r9 u9 H locs hw9 hP hD hS => ?_)
                                  subst hw9
                                  have hP : va_P G.1 CL (MW G mh md nr nc pL pG pB pk bf hi sv ch hs inp ty er wy wd rf lt ln th tr mv fo (sgS inp ty false ((fgS inp ty 1 false (sp + 1)).2.1) ((fgS inp ty 1 false (sp + 1)).2.2)) (sgW inp ty false ((fgS inp ty 1 false (sp + 1)).2.1) ((fgS inp ty 1 false (sp + 1)).2.2)) (va_up (va_up td kx (hrI inp ty sp)) (kx + 1) (nI ((fgS inp ty 1 false (sp + 1)).1)))) _ := hP
                                  have hD : va_D A (MW G mh md nr nc pL pG pB pk bf hi sv ch hs inp ty er wy wd rf lt ln th tr mv fo (sgS inp ty false ((fgS inp ty 1 false (sp + 1)).2.1) ((fgS inp ty 1 false (sp + 1)).2.2)) (sgW inp ty false ((fgS inp ty 1 false (sp + 1)).2.1) ((fgS inp ty 1 false (sp + 1)).2.2)) (va_up (va_up td kx (hrI inp ty sp)) (kx + 1) (nI ((fgS inp ty 1 false (sp + 1)).1)))) := hD
                                  refine r_iast hx hb hK hP hD hS 9 3 rfl rfl (by omega) (by decide) dX5_readsOrder_192 (fun H locs hP hD hS => ?_)
                                  have hP : va_P G.1 CL (MW G mh md nr nc pL pG pB pk bf hi sv ch hs inp ty er wy wd rf lt ln th tr mv fo (sgS inp ty false ((fgS inp ty 1 false (sp + 1)).2.1) ((fgS inp ty 1 false (sp + 1)).2.2)) (sgW inp ty false ((fgS inp ty 1 false (sp + 1)).2.1) ((fgS inp ty 1 false (sp + 1)).2.2)) (va_up (va_up (va_up td kx (hrI inp ty sp)) (kx + 1) (nI ((fgS inp ty 1 false (sp + 1)).1))) (kx + 2) (hrI inp ty ((fgS inp ty 1 false (sp + 1)).2.2)))) _ := hP
                                  have hD : va_D A (MW G mh md nr nc pL pG pB pk bf hi sv ch hs inp ty er wy wd rf lt ln th tr mv fo (sgS inp ty false ((fgS inp ty 1 false (sp + 1)).2.1) ((fgS inp ty 1 false (sp + 1)).2.2)) (sgW inp ty false ((fgS inp ty 1 false (sp + 1)).2.1) ((fgS inp ty 1 false (sp + 1)).2.2)) (va_up (va_up (va_up td kx (hrI inp ty sp)) (kx + 1) (nI ((fgS inp ty 1 false (sp + 1)).1))) (kx + 2) (hrI inp ty ((fgS inp ty 1 false (sp + 1)).2.2)))) := hD
                                  refine lv_goto (tgt := 278) hx hb dX5_readsOrder_193 (by decide) ?_
                                  subst hQ
                                  rw [ordP_pg (Or.inl k23_112)]
                                  rw [decide_eq_false (show ¬ hrI inp ty sp = nI 103 by rw [k23_112]; decide)]
                                  exact ret_v hx hb hr hlk (va_up (va_up (va_up td kx (hrI inp ty sp)) (kx + 1) (nI ((fgS inp ty 1 false (sp + 1)).1))) (kx + 2) (hrI inp ty ((fgS inp ty 1 false (sp + 1)).2.2))) ⟨fun _ => HX3.1, HX3.2⟩ hP hD hS dX5_readsOrder_278
                                · skip
                                  exact absurd (k23_112.symm.trans c181) (by decide)
                              · skip
                                by_cases k23_113 : (hrI inp ty sp) = nI 113
                                · skip
                                  refine lv_tableIn (off := 240) (tgt := 263) hx hb dX5_readsOrder_23 (by rw [k23_113]; decide) (by rw [k23_113]; decide) (by rw [k23_113]; decide) (by decide) ?_
                                  refine lv_aload_n hx hb dX5_readsOrder_263 rfl (lv_at hl 1 rfl) ?_
                                  refine lv_iconst (v := nI 1) hx hb dX5_readsOrder_264 (by decide) ?_
                                  refine va_put (D := G.1) (ci := 4) (v := .int (bI true)) (ty := .boolean) (C := RX5) (T := TX5) (N := 21) hx hb hts in_X5 tyX5 tyX5_ok nmX5 hown hK hP hD hS 0 rfl rfl 19 (by decide) (hts _ q1746) (fun _ h9 => h9) rfl (by decide +kernel) (bI_nar _) rfl (Nat.le_of_ble_eq_true rfl) dX5_readsOrder_265 (fun H locs hP hD hS => ?_)
                                  have hP : va_P G.1 CL (MW G mh md nr nc pL pG pB pk bf hi sv ch hs inp ty er wy wd rf lt ln th tr mv fo (sp + 1) true (va_up td kx (hrI inp ty sp))) _ := hP
                                  have hD : va_D A (MW G mh md nr nc pL pG pB pk bf hi sv ch hs inp ty er wy wd rf lt ln th tr mv fo (sp + 1) true (va_up td kx (hrI inp ty sp))) := hD
                                  refine lv_aload_n hx hb dX5_readsOrder_268 rfl (lv_at hl 1 rfl) ?_
                                  refine lv_dup hx hb dX5_readsOrder_269 rfl ?_
                                  refine va_get (D := G.1) (ci := 4) (v := .int (nI (sp + 1))) (C := RX5) (T := TX5) (N := 21) hx hb hts in_X5 hown hK hP 0 rfl rfl 18 (by decide) (hts _ q1745) (fun _ h9 => h9) rfl dX5_readsOrder_270 ?_
                                  refine lv_iconst (v := nI 1) hx hb dX5_readsOrder_273 (by decide) ?_
                                  refine n_isub hx hb (by omega) dX5_readsOrder_274 ?_
                                  refine va_put (D := G.1) (ci := 4) (v := .int (nI ((sp + 1) - 1))) (ty := .int) (C := RX5) (T := TX5) (N := 21) hx hb hts in_X5 tyX5 tyX5_ok nmX5 hown hK hP hD hS 0 rfl rfl 18 (by decide) (hts _ q1745) (fun _ h9 => h9) rfl (by decide +kernel) rfl rfl (Nat.le_of_ble_eq_true rfl) dX5_readsOrder_275 (fun H locs hP hD hS => ?_)
                                  have hP : va_P G.1 CL (MW G mh md nr nc pL pG pB pk bf hi sv ch hs inp ty er wy wd rf lt ln th tr mv fo ((sp + 1) - 1) true (va_up td kx (hrI inp ty sp))) _ := hP
                                  have hD : va_D A (MW G mh md nr nc pL pG pB pk bf hi sv ch hs inp ty er wy wd rf lt ln th tr mv fo ((sp + 1) - 1) true (va_up td kx (hrI inp ty sp))) := hD
                                  subst hQ
                                  rw [ordP_d (by first | assumption | (rw [show hrI inp ty sp = nI _ by assumption]; decide)) (by first | assumption | (rw [show hrI inp ty sp = nI _ by assumption]; decide)) (by first | assumption | (rw [show hrI inp ty sp = nI _ by assumption]; decide)) (by first | assumption | (rw [show hrI inp ty sp = nI _ by assumption]; decide)) (by first | assumption | (rw [show hrI inp ty sp = nI _ by assumption]; decide)) (by first | assumption | (rw [show hrI inp ty sp = nI _ by assumption]; decide)) (by first | assumption | (rw [show hrI inp ty sp = nI _ by assumption]; decide))]
                                  exact ret_v hx hb hr hlk (va_up td kx (hrI inp ty sp)) ⟨fun h9 => absurd (show true = false from h9) (by decide), HX1⟩ hP hD hS dX5_readsOrder_278
                                · skip
                                  by_cases k23_114 : (hrI inp ty sp) = nI 114
                                  · skip
                                    refine lv_tableIn (off := 205) (tgt := 228) hx hb dX5_readsOrder_23 (by rw [k23_114]; decide) (by rw [k23_114]; decide) (by rw [k23_114]; decide) (by decide) ?_
                                    have hn1 : sp + 1 ≤ ty := hrI_lt (show hrI inp ty sp = nI _ by assumption) (by decide)
                                    refine lv_aload_n hx hb dX5_readsOrder_228 rfl (lv_at hl 1 rfl) ?_
                                    refine va_get (D := G.1) (ci := 4) (v := .ref (md 8)) (C := RX5) (T := TX5) (N := 21) hx hb hts in_X5 hown hK hP 0 rfl rfl 20 (by decide) (hts _ q1747) (fun _ h9 => h9) rfl dX5_readsOrder_229 ?_
                                    refine lv_iload_n hx hb dX5_readsOrder_232 rfl (lv_at hl 2 rfl) ?_
                                    refine lv_iconst (v := nI 1) hx hb dX5_readsOrder_233 (by decide) ?_
                                    refine n_iadd hx hb dX5_readsOrder_234 ?_
                                    refine lv_aload_n hx hb dX5_readsOrder_235 rfl (lv_at hl 1 rfl) ?_
                                    refine lv_iconst (v := nI 3) hx hb dX5_readsOrder_236 (by decide) ?_
                                    refine callVi (As := [.int (nI 3)]) (rest := [.int (nI (kx + 1)), .ref (md 8)]) (wc := (MW G mh md nr nc pL pG pB pk bf hi sv ch hs inp ty er wy wd rf lt ln th tr mv fo (sp + 1) false (va_up td kx (hrI inp ty sp)))) (wr := ([] : va_W)) ⟨hx, hb, hml, hown, hts⟩ (m_X5_figures l G mh md nr nc pL pG pB pk bf hi sv ch hs inp ty er wy wd rf lt ln th tr mv fo (sp + 1) false (va_up td kx (hrI inp ty sp)) 3 (by first | exact hn1 | exact g1.2 | exact g2.2) (by first | assumption | omega) (by first | assumption | omega) (by first | assumption | omega)) (cwV 1 hts (lw_V q2121 q2123 qs82 q105 q2124) rfl rfl rfl (by decide +kernel) ⟨Nat.le_of_ble_eq_true rfl, Nat.le_of_ble_eq_true rfl⟩) hK hZ hA hP hD hS [0, 1, 2, 3, 4, 5, 6, 7, 8, 9] [] rfl rfl (by decide) (by decide) (by decide) 0 4 rfl rfl rfl hl.1 (Nat.le_of_ble_eq_true rfl) ⟨Nat.le_of_ble_eq_true rfl, Nat.le_of_ble_eq_true rfl⟩ rfl dX5_readsOrder_237 (fun r9 u9 H locs hw9 hP hD hS => ?_)
                                    subst hw9
                                    have hP : va_P G.1 CL (MW G mh md nr nc pL pG pB pk bf hi sv ch hs inp ty er wy wd rf lt ln th tr mv fo ((fgS inp ty 3 false (sp + 1)).2.2) ((fgS inp ty 3 false (sp + 1)).2.1) (va_up td kx (hrI inp ty sp))) _ := hP
                                    have hD : va_D A (MW G mh md nr nc pL pG pB pk bf hi sv ch hs inp ty er wy wd rf lt ln th tr mv fo ((fgS inp ty 3 false (sp + 1)).2.2) ((fgS inp ty 3 false (sp + 1)).2.1) (va_up td kx (hrI inp ty sp))) := hD
                                    refine r_iast hx hb hK hP hD hS 9 3 rfl rfl (by omega) (by decide) dX5_readsOrder_240 (fun H locs hP hD hS => ?_)
                                    have hP : va_P G.1 CL (MW G mh md nr nc pL pG pB pk bf hi sv ch hs inp ty er wy wd rf lt ln th tr mv fo ((fgS inp ty 3 false (sp + 1)).2.2) ((fgS inp ty 3 false (sp + 1)).2.1) (va_up (va_up td kx (hrI inp ty sp)) (kx + 1) (nI ((fgS inp ty 3 false (sp + 1)).1)))) _ := hP
                                    have hD : va_D A (MW G mh md nr nc pL pG pB pk bf hi sv ch hs inp ty er wy wd rf lt ln th tr mv fo ((fgS inp ty 3 false (sp + 1)).2.2) ((fgS inp ty 3 false (sp + 1)).2.1) (va_up (va_up td kx (hrI inp ty sp)) (kx + 1) (nI ((fgS inp ty 3 false (sp + 1)).1)))) := hD
                                    have g1 := fgS_le (t := inp) (m := 3) (w := false) hn1
                                    refine lv_aload_n hx hb dX5_readsOrder_241 rfl (lv_at hl 1 rfl) ?_
                                    refine lv_bipush (v := nI 47) hx hb dX5_readsOrder_242 (by decide) ?_
                                    refine callVv (As := [.int (nI 47)]) (rest := []) (wc := (MW G mh md nr nc pL pG pB pk bf hi sv ch hs inp ty er wy wd rf lt ln th tr mv fo ((fgS inp ty 3 false (sp + 1)).2.2) ((fgS inp ty 3 false (sp + 1)).2.1) (va_up (va_up td kx (hrI inp ty sp)) (kx + 1) (nI ((fgS inp ty 3 false (sp + 1)).1))))) (wr := ([] : va_W)) ⟨hx, hb, hml, hown, hts⟩ (m_X5_needs l G mh md nr nc pL pG pB pk bf hi sv ch hs inp ty er wy wd rf lt ln th tr mv fo ((fgS inp ty 3 false (sp + 1)).2.2) ((fgS inp ty 3 false (sp + 1)).2.1) (va_up (va_up td kx (hrI inp ty sp)) (kx + 1) (nI ((fgS inp ty 3 false (sp + 1)).1))) (nI 47) (by first | exact hn1 | exact g1.2 | exact g2.2) (by first | assumption | omega)) (cwV 1 hts (lw_V q2129 q2131 qs84 q105 q2132) rfl rfl rfl (by decide +kernel) ⟨Nat.le_of_ble_eq_true rfl, Nat.le_of_ble_eq_true rfl⟩) hK hZ hA hP hD hS [0, 1, 2, 3, 4, 5, 6, 7, 8, 9] [] rfl rfl (by decide) (by decide) (by decide) 0 4 rfl rfl rfl hl.1 (Nat.le_of_ble_eq_true rfl) ⟨Nat.le_of_ble_eq_true rfl, Nat.le_of_ble_eq_true rfl⟩ rfl dX5_readsOrder_244 (fun u9 H locs hw9 hP hD hS => ?_)
                                    have hP : va_P G.1 CL (MW G mh md nr nc pL pG pB pk bf hi sv ch hs inp ty er wy wd rf lt ln th tr mv fo (ndS inp ty (nI 47) ((fgS inp ty 3 false (sp + 1)).2.1) ((fgS inp ty 3 false (sp + 1)).2.2)) (ndW inp ty (nI 47) ((fgS inp ty 3 false (sp + 1)).2.1) ((fgS inp ty 3 false (sp + 1)).2.2)) (va_up (va_up td kx (hrI inp ty sp)) (kx + 1) (nI ((fgS inp ty 3 false (sp + 1)).1)))) _ := hP
                                    have hD : va_D A (MW G mh md nr nc pL pG pB pk bf hi sv ch hs inp ty er wy wd rf lt ln th tr mv fo (ndS inp ty (nI 47) ((fgS inp ty 3 false (sp + 1)).2.1) ((fgS inp ty 3 false (sp + 1)).2.2)) (ndW inp ty (nI 47) ((fgS inp ty 3 false (sp + 1)).2.1) ((fgS inp ty 3 false (sp + 1)).2.2)) (va_up (va_up td kx (hrI inp ty sp)) (kx + 1) (nI ((fgS inp ty 3 false (sp + 1)).1)))) := hD
                                    have g2 := ndS_le (t := inp) (c := 47) (w := (fgS inp ty 3 false (sp + 1)).2.1) (by decide) g1.2
                                    refine lv_aload_n hx hb dX5_readsOrder_247 rfl (lv_at hl 1 rfl) ?_
                                    refine va_get (D := G.1) (ci := 4) (v := .ref (md 8)) (C := RX5) (T := TX5) (N := 21) hx hb hts in_X5 hown hK hP 0 rfl rfl 20 (by decide) (hts _ q1747) (fun _ h9 => h9) rfl dX5_readsOrder_248 ?_
                                    refine lv_iload_n hx hb dX5_readsOrder_251 rfl (lv_at hl 2 rfl) ?_
                                    refine lv_iconst (v := nI 2) hx hb dX5_readsOrder_252 (by decide) ?_
                                    refine n_iadd hx hb dX5_readsOrder_253 ?_
                                    refine lv_aload_n hx hb dX5_readsOrder_254 rfl (lv_at hl 1 rfl) ?_
                                    refine lv_iconst (v := nI 1) hx hb dX5_readsOrder_255 (by decide) ?_
                                    refine callVi (As := [.int (nI 1)]) (rest := [.int (nI (kx + 2)), .ref (md 8)]) (wc := (MW G mh md nr nc pL pG pB pk bf hi sv ch hs inp ty er wy wd rf lt ln th tr mv fo (ndS inp ty (nI 47) ((fgS inp ty 3 false (sp + 1)).2.1) ((fgS inp ty 3 false (sp + 1)).2.2)) (ndW inp ty (nI 47) ((fgS inp ty 3 false (sp + 1)).2.1) ((fgS inp ty 3 false (sp + 1)).2.2)) (va_up (va_up td kx (hrI inp ty sp)) (kx + 1) (nI ((fgS inp ty 3 false (sp + 1)).1))))) (wr := ([] : va_W)) ⟨hx, hb, hml, hown, hts⟩ (m_X5_figures l G mh md nr nc pL pG pB pk bf hi sv ch hs inp ty er wy wd rf lt ln th tr mv fo (ndS inp ty (nI 47) ((fgS inp ty 3 false (sp + 1)).2.1) ((fgS inp ty 3 false (sp + 1)).2.2)) (ndW inp ty (nI 47) ((fgS inp ty 3 false (sp + 1)).2.1) ((fgS inp ty 3 false (sp + 1)).2.2)) (va_up (va_up td kx (hrI inp ty sp)) (kx + 1) (nI ((fgS inp ty 3 false (sp + 1)).1))) 1 (by first | exact hn1 | exact g1.2 | exact g2.2) (by first | assumption | omega) (by first | assumption | omega) (by first | assumption | omega)) (cwV 1 hts (lw_V q2121 q2123 qs82 q105 q2124) rfl rfl rfl (by decide +kernel) ⟨Nat.le_of_ble_eq_true rfl, Nat.le_of_ble_eq_true rfl⟩) hK hZ hA hP hD hS [0, 1, 2, 3, 4, 5, 6, 7, 8, 9] [] rfl rfl (by decide) (by decide) (by decide) 0 4 rfl rfl rfl hl.1 (Nat.le_of_ble_eq_true rfl) ⟨Nat.le_of_ble_eq_true rfl, Nat.le_of_ble_eq_true rfl⟩ rfl dX5_readsOrder_256 (fun r9 u9 H locs hw9 hP hD hS => ?_)
                                    subst hw9
                                    have hP : va_P G.1 CL (MW G mh md nr nc pL pG pB pk bf hi sv ch hs inp ty er wy wd rf lt ln th tr mv fo ((fgS inp ty 1 (ndW inp ty (nI 47) ((fgS inp ty 3 false (sp + 1)).2.1) ((fgS inp ty 3 false (sp + 1)).2.2)) (ndS inp ty (nI 47) ((fgS inp ty 3 false (sp + 1)).2.1) ((fgS inp ty 3 false (sp + 1)).2.2))).2.2) ((fgS inp ty 1 (ndW inp ty (nI 47) ((fgS inp ty 3 false (sp + 1)).2.1) ((fgS inp ty 3 false (sp + 1)).2.2)) (ndS inp ty (nI 47) ((fgS inp ty 3 false (sp + 1)).2.1) ((fgS inp ty 3 false (sp + 1)).2.2))).2.1) (va_up (va_up td kx (hrI inp ty sp)) (kx + 1) (nI ((fgS inp ty 3 false (sp + 1)).1)))) _ := hP
                                    have hD : va_D A (MW G mh md nr nc pL pG pB pk bf hi sv ch hs inp ty er wy wd rf lt ln th tr mv fo ((fgS inp ty 1 (ndW inp ty (nI 47) ((fgS inp ty 3 false (sp + 1)).2.1) ((fgS inp ty 3 false (sp + 1)).2.2)) (ndS inp ty (nI 47) ((fgS inp ty 3 false (sp + 1)).2.1) ((fgS inp ty 3 false (sp + 1)).2.2))).2.2) ((fgS inp ty 1 (ndW inp ty (nI 47) ((fgS inp ty 3 false (sp + 1)).2.1) ((fgS inp ty 3 false (sp + 1)).2.2)) (ndS inp ty (nI 47) ((fgS inp ty 3 false (sp + 1)).2.1) ((fgS inp ty 3 false (sp + 1)).2.2))).2.1) (va_up (va_up td kx (hrI inp ty sp)) (kx + 1) (nI ((fgS inp ty 3 false (sp + 1)).1)))) := hD
                                    refine r_iast hx hb hK hP hD hS 9 3 rfl rfl (by omega) (by decide) dX5_readsOrder_259 (fun H locs hP hD hS => ?_)
                                    have hP : va_P G.1 CL (MW G mh md nr nc pL pG pB pk bf hi sv ch hs inp ty er wy wd rf lt ln th tr mv fo ((fgS inp ty 1 (ndW inp ty (nI 47) ((fgS inp ty 3 false (sp + 1)).2.1) ((fgS inp ty 3 false (sp + 1)).2.2)) (ndS inp ty (nI 47) ((fgS inp ty 3 false (sp + 1)).2.1) ((fgS inp ty 3 false (sp + 1)).2.2))).2.2) ((fgS inp ty 1 (ndW inp ty (nI 47) ((fgS inp ty 3 false (sp + 1)).2.1) ((fgS inp ty 3 false (sp + 1)).2.2)) (ndS inp ty (nI 47) ((fgS inp ty 3 false (sp + 1)).2.1) ((fgS inp ty 3 false (sp + 1)).2.2))).2.1) (va_up (va_up (va_up td kx (hrI inp ty sp)) (kx + 1) (nI ((fgS inp ty 3 false (sp + 1)).1))) (kx + 2) (nI ((fgS inp ty 1 (ndW inp ty (nI 47) ((fgS inp ty 3 false (sp + 1)).2.1) ((fgS inp ty 3 false (sp + 1)).2.2)) (ndS inp ty (nI 47) ((fgS inp ty 3 false (sp + 1)).2.1) ((fgS inp ty 3 false (sp + 1)).2.2))).1)))) _ := hP
                                    have hD : va_D A (MW G mh md nr nc pL pG pB pk bf hi sv ch hs inp ty er wy wd rf lt ln th tr mv fo ((fgS inp ty 1 (ndW inp ty (nI 47) ((fgS inp ty 3 false (sp + 1)).2.1) ((fgS inp ty 3 false (sp + 1)).2.2)) (ndS inp ty (nI 47) ((fgS inp ty 3 false (sp + 1)).2.1) ((fgS inp ty 3 false (sp + 1)).2.2))).2.2) ((fgS inp ty 1 (ndW inp ty (nI 47) ((fgS inp ty 3 false (sp + 1)).2.1) ((fgS inp ty 3 false (sp + 1)).2.2)) (ndS inp ty (nI 47) ((fgS inp ty 3 false (sp + 1)).2.1) ((fgS inp ty 3 false (sp + 1)).2.2))).2.1) (va_up (va_up (va_up td kx (hrI inp ty sp)) (kx + 1) (nI ((fgS inp ty 3 false (sp + 1)).1))) (kx + 2) (nI ((fgS inp ty 1 (ndW inp ty (nI 47) ((fgS inp ty 3 false (sp + 1)).2.1) ((fgS inp ty 3 false (sp + 1)).2.2)) (ndS inp ty (nI 47) ((fgS inp ty 3 false (sp + 1)).2.1) ((fgS inp ty 3 false (sp + 1)).2.2))).1)))) := hD
                                    refine lv_goto (tgt := 278) hx hb dX5_readsOrder_260 (by decide) ?_
                                    subst hQ
                                    rw [ordP_r k23_114]
                                    exact ret_v hx hb hr hlk (va_up (va_up (va_up td kx (hrI inp ty sp)) (kx + 1) (nI ((fgS inp ty 3 false (sp + 1)).1))) (kx + 2) (nI ((fgS inp ty 1 (ndW inp ty (nI 47) ((fgS inp ty 3 false (sp + 1)).2.1) ((fgS inp ty 3 false (sp + 1)).2.2)) (ndS inp ty (nI 47) ((fgS inp ty 3 false (sp + 1)).2.1) ((fgS inp ty 3 false (sp + 1)).2.2))).1))) ⟨fun _ => HX3.1, HX3.2⟩ hP hD hS dX5_readsOrder_278
                                  · skip
                                    by_cases k23_115 : (hrI inp ty sp) = nI 115
                                    · skip
                                      refine lv_tableIn (off := 105) (tgt := 128) hx hb dX5_readsOrder_23 (by rw [k23_115]; decide) (by rw [k23_115]; decide) (by rw [k23_115]; decide) (by decide) ?_
                                      have hn1 : sp + 1 ≤ ty := hrI_lt (show hrI inp ty sp = nI _ by assumption) (by decide)
                                      refine lv_aload_n hx hb dX5_readsOrder_128 rfl (lv_at hl 1 rfl) ?_
                                      refine va_get (D := G.1) (ci := 4) (v := .ref (md 8)) (C := RX5) (T := TX5) (N := 21) hx hb hts in_X5 hown hK hP 0 rfl rfl 20 (by decide) (hts _ q1747) (fun _ h9 => h9) rfl dX5_readsOrder_129 ?_
                                      refine lv_iload_n hx hb dX5_readsOrder_132 rfl (lv_at hl 2 rfl) ?_
                                      refine lv_iconst (v := nI 1) hx hb dX5_readsOrder_133 (by decide) ?_
                                      refine n_iadd hx hb dX5_readsOrder_134 ?_
                                      refine lv_aload_n hx hb dX5_readsOrder_135 rfl (lv_at hl 1 rfl) ?_
                                      refine lv_iconst (v := nI 1) hx hb dX5_readsOrder_136 (by decide) ?_
                                      refine callVi (As := [.int (nI 1)]) (rest := [.int (nI (kx + 1)), .ref (md 8)]) (wc := (MW G mh md nr nc pL pG pB pk bf hi sv ch hs inp ty er wy wd rf lt ln th tr mv fo (sp + 1) false (va_up td kx (hrI inp ty sp)))) (wr := ([] : va_W)) ⟨hx, hb, hml, hown, hts⟩ (m_X5_figures l G mh md nr nc pL pG pB pk bf hi sv ch hs inp ty er wy wd rf lt ln th tr mv fo (sp + 1) false (va_up td kx (hrI inp ty sp)) 1 (by first | exact hn1 | exact g1.2 | exact g2.2) (by first | assumption | omega) (by first | assumption | omega) (by first | assumption | omega)) (cwV 1 hts (lw_V q2121 q2123 qs82 q105 q2124) rfl rfl rfl (by decide +kernel) ⟨Nat.le_of_ble_eq_true rfl, Nat.le_of_ble_eq_true rfl⟩) hK hZ hA hP hD hS [0, 1, 2, 3, 4, 5, 6, 7, 8, 9] [] rfl rfl (by decide) (by decide) (by decide) 0 4 rfl rfl rfl hl.1 (Nat.le_of_ble_eq_true rfl) ⟨Nat.le_of_ble_eq_true rfl, Nat.le_of_ble_eq_true rfl⟩ rfl dX5_readsOrder_137 (fun r9 u9 H locs hw9 hP hD hS => ?_)
                                      subst hw9
                                      have hP : va_P G.1 CL (MW G mh md nr nc pL pG pB pk bf hi sv ch hs inp ty er wy wd rf lt ln th tr mv fo ((fgS inp ty 1 false (sp + 1)).2.2) ((fgS inp ty 1 false (sp + 1)).2.1) (va_up td kx (hrI inp ty sp))) _ := hP
                                      have hD : va_D A (MW G mh md nr nc pL pG pB pk bf hi sv ch hs inp ty er wy wd rf lt ln th tr mv fo ((fgS inp ty 1 false (sp + 1)).2.2) ((fgS inp ty 1 false (sp + 1)).2.1) (va_up td kx (hrI inp ty sp))) := hD
                                      refine r_iast hx hb hK hP hD hS 9 3 rfl rfl (by omega) (by decide) dX5_readsOrder_140 (fun H locs hP hD hS => ?_)
                                      have hP : va_P G.1 CL (MW G mh md nr nc pL pG pB pk bf hi sv ch hs inp ty er wy wd rf lt ln th tr mv fo ((fgS inp ty 1 false (sp + 1)).2.2) ((fgS inp ty 1 false (sp + 1)).2.1) (va_up (va_up td kx (hrI inp ty sp)) (kx + 1) (nI ((fgS inp ty 1 false (sp + 1)).1)))) _ := hP
                                      have hD : va_D A (MW G mh md nr nc pL pG pB pk bf hi sv ch hs inp ty er wy wd rf lt ln th tr mv fo ((fgS inp ty 1 false (sp + 1)).2.2) ((fgS inp ty 1 false (sp + 1)).2.1) (va_up (va_up td kx (hrI inp ty sp)) (kx + 1) (nI ((fgS inp ty 1 false (sp + 1)).1)))) := hD
                                      have g1 := fgS_le (t := inp) (m := 1) (w := false) hn1
                                      refine lv_aload_n hx hb dX5_readsOrder_141 rfl (lv_at hl 1 rfl) ?_
                                      refine va_get (D := G.1) (ci := 4) (v := .ref (md 8)) (C := RX5) (T := TX5) (N := 21) hx hb hts in_X5 hown hK hP 0 rfl rfl 20 (by decide) (hts _ q1747) (fun _ h9 => h9) rfl dX5_readsOrder_142 ?_
                                      refine lv_iload_n hx hb dX5_readsOrder_145 rfl (lv_at hl 2 rfl) ?_
                                      refine lv_iconst (v := nI 2) hx hb dX5_readsOrder_146 (by decide) ?_
                                      refine n_iadd hx hb dX5_readsOrder_147 ?_
                                      refine lv_aload_n hx hb dX5_readsOrder_148 rfl (lv_at hl 1 rfl) ?_
                                      refine lv_iconst (v := nI 1) hx hb dX5_readsOrder_149 (by decide) ?_
                                      refine callVi (As := [.int (nI 1)]) (rest := [.int (nI (kx + 2)), .ref (md 8)]) (wc := (MW G mh md nr nc pL pG pB pk bf hi sv ch hs inp ty er wy wd rf lt ln th tr mv fo ((fgS inp ty 1 false (sp + 1)).2.2) ((fgS inp ty 1 false (sp + 1)).2.1) (va_up (va_up td kx (hrI inp ty sp)) (kx + 1) (nI ((fgS inp ty 1 false (sp + 1)).1))))) (wr := ([] : va_W)) ⟨hx, hb, hml, hown, hts⟩ (m_X5_figures l G mh md nr nc pL pG pB pk bf hi sv ch hs inp ty er wy wd rf lt ln th tr mv fo ((fgS inp ty 1 false (sp + 1)).2.2) ((fgS inp ty 1 false (sp + 1)).2.1) (va_up (va_up td kx (hrI inp ty sp)) (kx + 1) (nI ((fgS inp ty 1 false (sp + 1)).1))) 1 (by first | exact hn1 | exact g1.2 | exact g2.2) (by first | assumption | omega) (by first | assumption | omega) (by first | assumption | omega)) (cwV 1 hts (lw_V q2121 q2123 qs82 q105 q2124) rfl rfl rfl (by decide +kernel) ⟨Nat.le_of_ble_eq_true rfl, Nat.le_of_ble_eq_true rfl⟩) hK hZ hA hP hD hS [0, 1, 2, 3, 4, 5, 6, 7, 8, 9] [] rfl rfl (by decide) (by decide) (by decide) 0 4 rfl rfl rfl hl.1 (Nat.le_of_ble_eq_true rfl) ⟨Nat.le_of_ble_eq_true rfl, Nat.le_of_ble_eq_true rfl⟩ rfl dX5_readsOrder_150 (fun r9 u9 H locs hw9 hP hD hS => ?_)
                                      subst hw9
                                      have hP : va_P G.1 CL (MW G mh md nr nc pL pG pB pk bf hi sv ch hs inp ty er wy wd rf lt ln th tr mv fo ((fgS inp ty 1 ((fgS inp ty 1 false (sp + 1)).2.1) ((fgS inp ty 1 false (sp + 1)).2.2)).2.2) ((fgS inp ty 1 ((fgS inp ty 1 false (sp + 1)).2.1) ((fgS inp ty 1 false (sp + 1)).2.2)).2.1) (va_up (va_up td kx (hrI inp ty sp)) (kx + 1) (nI ((fgS inp ty 1 false (sp + 1)).1)))) _ := hP
                                      have hD : va_D A (MW G mh md nr nc pL pG pB pk bf hi sv ch hs inp ty er wy wd rf lt ln th tr mv fo ((fgS inp ty 1 ((fgS inp ty 1 false (sp + 1)).2.1) ((fgS inp ty 1 false (sp + 1)).2.2)).2.2) ((fgS inp ty 1 ((fgS inp ty 1 false (sp + 1)).2.1) ((fgS inp ty 1 false (sp + 1)).2.2)).2.1) (va_up (va_up td kx (hrI inp ty sp)) (kx + 1) (nI ((fgS inp ty 1 false (sp + 1)).1)))) := hD
                                      refine r_iast hx hb hK hP hD hS 9 3 rfl rfl (by omega) (by decide) dX5_readsOrder_153 (fun H locs hP hD hS => ?_)
                                      have hP : va_P G.1 CL (MW G mh md nr nc pL pG pB pk bf hi sv ch hs inp ty er wy wd rf lt ln th tr mv fo ((fgS inp ty 1 ((fgS inp ty 1 false (sp + 1)).2.1) ((fgS inp ty 1 false (sp + 1)).2.2)).2.2) ((fgS inp ty 1 ((fgS inp ty 1 false (sp + 1)).2.1) ((fgS inp ty 1 false (sp + 1)).2.2)).2.1) (va_up (va_up (va_up td kx (hrI inp ty sp)) (kx + 1) (nI ((fgS inp ty 1 false (sp + 1)).1))) (kx + 2) (nI ((fgS inp ty 1 ((fgS inp ty 1 false (sp + 1)).2.1) ((fgS inp ty 1 false (sp + 1)).2.2)).1)))) _ := hP
                                      have hD : va_D A (MW G mh md nr nc pL pG pB pk bf hi sv ch hs inp ty er wy wd rf lt ln th tr mv fo ((fgS inp ty 1 ((fgS inp ty 1 false (sp + 1)).2.1) ((fgS inp ty 1 false (sp + 1)).2.2)).2.2) ((fgS inp ty 1 ((fgS inp ty 1 false (sp + 1)).2.1) ((fgS inp ty 1 false (sp + 1)).2.2)).2.1) (va_up (va_up (va_up td kx (hrI inp ty sp)) (kx + 1) (nI ((fgS inp ty 1 false (sp + 1)).1))) (kx + 2) (nI ((fgS inp ty 1 ((fgS inp ty 1 false (sp + 1)).2.1) ((fgS inp ty 1 false (sp + 1)).2.2)).1)))) := hD
                                      refine lv_goto (tgt := 278) hx hb dX5_readsOrder_154 (by decide) ?_
                                      subst hQ
                                      rw [ordP_bs (Or.inr k23_115)]
                                      exact ret_v hx hb hr hlk (va_up (va_up (va_up td kx (hrI inp ty sp)) (kx + 1) (nI ((fgS inp ty 1 false (sp + 1)).1))) (kx + 2) (nI ((fgS inp ty 1 ((fgS inp ty 1 false (sp + 1)).2.1) ((fgS inp ty 1 false (sp + 1)).2.2)).1))) ⟨fun _ => HX3.1, HX3.2⟩ hP hD hS dX5_readsOrder_278
                                    · skip
                                      by_cases k23_116 : (hrI inp ty sp) = nI 116
                                      · skip
                                        refine lv_tableIn (off := 173) (tgt := 196) hx hb dX5_readsOrder_23 (by rw [k23_116]; decide) (by rw [k23_116]; decide) (by rw [k23_116]; decide) (by decide) ?_
                                        have hn1 : sp + 1 ≤ ty := hrI_lt (show hrI inp ty sp = nI _ by assumption) (by decide)
                                        refine lv_aload_n hx hb dX5_readsOrder_196 rfl (lv_at hl 1 rfl) ?_
                                        refine va_get (D := G.1) (ci := 4) (v := .ref (md 8)) (C := RX5) (T := TX5) (N := 21) hx hb hts in_X5 hown hK hP 0 rfl rfl 20 (by decide) (hts _ q1747) (fun _ h9 => h9) rfl dX5_readsOrder_197 ?_
                                        refine lv_iload_n hx hb dX5_readsOrder_200 rfl (lv_at hl 2 rfl) ?_
                                        refine lv_iconst (v := nI 1) hx hb dX5_readsOrder_201 (by decide) ?_
                                        refine n_iadd hx hb dX5_readsOrder_202 ?_
                                        refine lv_aload_n hx hb dX5_readsOrder_203 rfl (lv_at hl 1 rfl) ?_
                                        refine lv_iconst (v := nI 3) hx hb dX5_readsOrder_204 (by decide) ?_
                                        refine callVi (As := [.int (nI 3)]) (rest := [.int (nI (kx + 1)), .ref (md 8)]) (wc := (MW G mh md nr nc pL pG pB pk bf hi sv ch hs inp ty er wy wd rf lt ln th tr mv fo (sp + 1) false (va_up td kx (hrI inp ty sp)))) (wr := ([] : va_W)) ⟨hx, hb, hml, hown, hts⟩ (m_X5_figures l G mh md nr nc pL pG pB pk bf hi sv ch hs inp ty er wy wd rf lt ln th tr mv fo (sp + 1) false (va_up td kx (hrI inp ty sp)) 3 (by first | exact hn1 | exact g1.2 | exact g2.2) (by first | assumption | omega) (by first | assumption | omega) (by first | assumption | omega)) (cwV 1 hts (lw_V q2121 q2123 qs82 q105 q2124) rfl rfl rfl (by decide +kernel) ⟨Nat.le_of_ble_eq_true rfl, Nat.le_of_ble_eq_true rfl⟩) hK hZ hA hP hD hS [0, 1, 2, 3, 4, 5, 6, 7, 8, 9] [] rfl rfl (by decide) (by decide) (by decide) 0 4 rfl rfl rfl hl.1 (Nat.le_of_ble_eq_true rfl) ⟨Nat.le_of_ble_eq_true rfl, Nat.le_of_ble_eq_true rfl⟩ rfl dX5_readsOrder_205 (fun r9 u9 H locs hw9 hP hD hS => ?_)
                                        subst hw9
                                        have hP : va_P G.1 CL (MW G mh md nr nc pL pG pB pk bf hi sv ch hs inp ty er wy wd rf lt ln th tr mv fo ((fgS inp ty 3 false (sp + 1)).2.2) ((fgS inp ty 3 false (sp + 1)).2.1) (va_up td kx (hrI inp ty sp))) _ := hP
                                        have hD : va_D A (MW G mh md nr nc pL pG pB pk bf hi sv ch hs inp ty er wy wd rf lt ln th tr mv fo ((fgS inp ty 3 false (sp + 1)).2.2) ((fgS inp ty 3 false (sp + 1)).2.1) (va_up td kx (hrI inp ty sp))) := hD
                                        refine r_iast hx hb hK hP hD hS 9 3 rfl rfl (by omega) (by decide) dX5_readsOrder_208 (fun H locs hP hD hS => ?_)
                                        have hP : va_P G.1 CL (MW G mh md nr nc pL pG pB pk bf hi sv ch hs inp ty er wy wd rf lt ln th tr mv fo ((fgS inp ty 3 false (sp + 1)).2.2) ((fgS inp ty 3 false (sp + 1)).2.1) (va_up (va_up td kx (hrI inp ty sp)) (kx + 1) (nI ((fgS inp ty 3 false (sp + 1)).1)))) _ := hP
                                        have hD : va_D A (MW G mh md nr nc pL pG pB pk bf hi sv ch hs inp ty er wy wd rf lt ln th tr mv fo ((fgS inp ty 3 false (sp + 1)).2.2) ((fgS inp ty 3 false (sp + 1)).2.1) (va_up (va_up td kx (hrI inp ty sp)) (kx + 1) (nI ((fgS inp ty 3 false (sp + 1)).1)))) := hD
                                        refine lv_goto (tgt := 278) hx hb dX5_readsOrder_209 (by decide) ?_
                                        subst hQ
                                        rw [ordP_t k23_116]
                                        exact ret_v hx hb hr hlk (va_up (va_up td kx (hrI inp ty sp)) (kx + 1) (nI ((fgS inp ty 3 false (sp + 1)).1))) ⟨fun _ => (HX2 (b := 0) (Or.inl k23_116)).1, (HX2 (b := 0) (Or.inl k23_116)).2⟩ hP hD hS dX5_readsOrder_278
                                      · skip
                                        by_cases k23_117 : (hrI inp ty sp) = nI 117
                                        · skip
                                          refine lv_tableIn (off := 240) (tgt := 263) hx hb dX5_readsOrder_23 (by rw [k23_117]; decide) (by rw [k23_117]; decide) (by rw [k23_117]; decide) (by decide) ?_
                                          refine lv_aload_n hx hb dX5_readsOrder_263 rfl (lv_at hl 1 rfl) ?_
                                          refine lv_iconst (v := nI 1) hx hb dX5_readsOrder_264 (by decide) ?_
                                          refine va_put (D := G.1) (ci := 4) (v := .int (bI true)) (ty := .boolean) (C := RX5) (T := TX5) (N := 21) hx hb hts in_X5 tyX5 tyX5_ok nmX5 hown hK hP hD hS 0 rfl rfl 19 (by decide) (hts _ q1746) (fun _ h9 => h9) rfl (by decide +kernel) (bI_nar _) rfl (Nat.le_of_ble_eq_true rfl) dX5_readsOrder_265 (fun H locs hP hD hS => ?_)
                                          have hP : va_P G.1 CL (MW G mh md nr nc pL pG pB pk bf hi sv ch hs inp ty er wy wd rf lt ln th tr mv fo (sp + 1) true (va_up td kx (hrI inp ty sp))) _ := hP
                                          have hD : va_D A (MW G mh md nr nc pL pG pB pk bf hi sv ch hs inp ty er wy wd rf lt ln th tr mv fo (sp + 1) true (va_up td kx (hrI inp ty sp))) := hD
                                          refine lv_aload_n hx hb dX5_readsOrder_268 rfl (lv_at hl 1 rfl) ?_
                                          refine lv_dup hx hb dX5_readsOrder_269 rfl ?_
                                          refine va_get (D := G.1) (ci := 4) (v := .int (nI (sp + 1))) (C := RX5) (T := TX5) (N := 21) hx hb hts in_X5 hown hK hP 0 rfl rfl 18 (by decide) (hts _ q1745) (fun _ h9 => h9) rfl dX5_readsOrder_270 ?_
                                          refine lv_iconst (v := nI 1) hx hb dX5_readsOrder_273 (by decide) ?_
                                          refine n_isub hx hb (by omega) dX5_readsOrder_274 ?_
                                          refine va_put (D := G.1) (ci := 4) (v := .int (nI ((sp + 1) - 1))) (ty := .int) (C := RX5) (T := TX5) (N := 21) hx hb hts in_X5 tyX5 tyX5_ok nmX5 hown hK hP hD hS 0 rfl rfl 18 (by decide) (hts _ q1745) (fun _ h9 => h9) rfl (by decide +kernel) rfl rfl (Nat.le_of_ble_eq_true rfl) dX5_readsOrder_275 (fun H locs hP hD hS => ?_)
                                          have hP : va_P G.1 CL (MW G mh md nr nc pL pG pB pk bf hi sv ch hs inp ty er wy wd rf lt ln th tr mv fo ((sp + 1) - 1) true (va_up td kx (hrI inp ty sp))) _ := hP
                                          have hD : va_D A (MW G mh md nr nc pL pG pB pk bf hi sv ch hs inp ty er wy wd rf lt ln th tr mv fo ((sp + 1) - 1) true (va_up td kx (hrI inp ty sp))) := hD
                                          subst hQ
                                          rw [ordP_d (by first | assumption | (rw [show hrI inp ty sp = nI _ by assumption]; decide)) (by first | assumption | (rw [show hrI inp ty sp = nI _ by assumption]; decide)) (by first | assumption | (rw [show hrI inp ty sp = nI _ by assumption]; decide)) (by first | assumption | (rw [show hrI inp ty sp = nI _ by assumption]; decide)) (by first | assumption | (rw [show hrI inp ty sp = nI _ by assumption]; decide)) (by first | assumption | (rw [show hrI inp ty sp = nI _ by assumption]; decide)) (by first | assumption | (rw [show hrI inp ty sp = nI _ by assumption]; decide))]
                                          exact ret_v hx hb hr hlk (va_up td kx (hrI inp ty sp)) ⟨fun h9 => absurd (show true = false from h9) (by decide), HX1⟩ hP hD hS dX5_readsOrder_278
                                        · skip
                                          by_cases k23_118 : (hrI inp ty sp) = nI 118
                                          · skip
                                            refine lv_tableIn (off := 240) (tgt := 263) hx hb dX5_readsOrder_23 (by rw [k23_118]; decide) (by rw [k23_118]; decide) (by rw [k23_118]; decide) (by decide) ?_
                                            refine lv_aload_n hx hb dX5_readsOrder_263 rfl (lv_at hl 1 rfl) ?_
                                            refine lv_iconst (v := nI 1) hx hb dX5_readsOrder_264 (by decide) ?_
                                            refine va_put (D := G.1) (ci := 4) (v := .int (bI true)) (ty := .boolean) (C := RX5) (T := TX5) (N := 21) hx hb hts in_X5 tyX5 tyX5_ok nmX5 hown hK hP hD hS 0 rfl rfl 19 (by decide) (hts _ q1746) (fun _ h9 => h9) rfl (by decide +kernel) (bI_nar _) rfl (Nat.le_of_ble_eq_true rfl) dX5_readsOrder_265 (fun H locs hP hD hS => ?_)
                                            have hP : va_P G.1 CL (MW G mh md nr nc pL pG pB pk bf hi sv ch hs inp ty er wy wd rf lt ln th tr mv fo (sp + 1) true (va_up td kx (hrI inp ty sp))) _ := hP
                                            have hD : va_D A (MW G mh md nr nc pL pG pB pk bf hi sv ch hs inp ty er wy wd rf lt ln th tr mv fo (sp + 1) true (va_up td kx (hrI inp ty sp))) := hD
                                            refine lv_aload_n hx hb dX5_readsOrder_268 rfl (lv_at hl 1 rfl) ?_
                                            refine lv_dup hx hb dX5_readsOrder_269 rfl ?_
                                            refine va_get (D := G.1) (ci := 4) (v := .int (nI (sp + 1))) (C := RX5) (T := TX5) (N := 21) hx hb hts in_X5 hown hK hP 0 rfl rfl 18 (by decide) (hts _ q1745) (fun _ h9 => h9) rfl dX5_readsOrder_270 ?_
                                            refine lv_iconst (v := nI 1) hx hb dX5_readsOrder_273 (by decide) ?_
                                            refine n_isub hx hb (by omega) dX5_readsOrder_274 ?_
                                            refine va_put (D := G.1) (ci := 4) (v := .int (nI ((sp + 1) - 1))) (ty := .int) (C := RX5) (T := TX5) (N := 21) hx hb hts in_X5 tyX5 tyX5_ok nmX5 hown hK hP hD hS 0 rfl rfl 18 (by decide) (hts _ q1745) (fun _ h9 => h9) rfl (by decide +kernel) rfl rfl (Nat.le_of_ble_eq_true rfl) dX5_readsOrder_275 (fun H locs hP hD hS => ?_)
                                            have hP : va_P G.1 CL (MW G mh md nr nc pL pG pB pk bf hi sv ch hs inp ty er wy wd rf lt ln th tr mv fo ((sp + 1) - 1) true (va_up td kx (hrI inp ty sp))) _ := hP
                                            have hD : va_D A (MW G mh md nr nc pL pG pB pk bf hi sv ch hs inp ty er wy wd rf lt ln th tr mv fo ((sp + 1) - 1) true (va_up td kx (hrI inp ty sp))) := hD
                                            subst hQ
                                            rw [ordP_d (by first | assumption | (rw [show hrI inp ty sp = nI _ by assumption]; decide)) (by first | assumption | (rw [show hrI inp ty sp = nI _ by assumption]; decide)) (by first | assumption | (rw [show hrI inp ty sp = nI _ by assumption]; decide)) (by first | assumption | (rw [show hrI inp ty sp = nI _ by assumption]; decide)) (by first | assumption | (rw [show hrI inp ty sp = nI _ by assumption]; decide)) (by first | assumption | (rw [show hrI inp ty sp = nI _ by assumption]; decide)) (by first | assumption | (rw [show hrI inp ty sp = nI _ by assumption]; decide))]
                                            exact ret_v hx hb hr hlk (va_up td kx (hrI inp ty sp)) ⟨fun h9 => absurd (show true = false from h9) (by decide), HX1⟩ hP hD hS dX5_readsOrder_278
                                          · skip
                                            by_cases k23_119 : (hrI inp ty sp) = nI 119
                                            · skip
                                              refine lv_tableIn (off := 240) (tgt := 263) hx hb dX5_readsOrder_23 (by rw [k23_119]; decide) (by rw [k23_119]; decide) (by rw [k23_119]; decide) (by decide) ?_
                                              refine lv_aload_n hx hb dX5_readsOrder_263 rfl (lv_at hl 1 rfl) ?_
                                              refine lv_iconst (v := nI 1) hx hb dX5_readsOrder_264 (by decide) ?_
                                              refine va_put (D := G.1) (ci := 4) (v := .int (bI true)) (ty := .boolean) (C := RX5) (T := TX5) (N := 21) hx hb hts in_X5 tyX5 tyX5_ok nmX5 hown hK hP hD hS 0 rfl rfl 19 (by decide) (hts _ q1746) (fun _ h9 => h9) rfl (by decide +kernel) (bI_nar _) rfl (Nat.le_of_ble_eq_true rfl) dX5_readsOrder_265 (fun H locs hP hD hS => ?_)
                                              have hP : va_P G.1 CL (MW G mh md nr nc pL pG pB pk bf hi sv ch hs inp ty er wy wd rf lt ln th tr mv fo (sp + 1) true (va_up td kx (hrI inp ty sp))) _ := hP
                                              have hD : va_D A (MW G mh md nr nc pL pG pB pk bf hi sv ch hs inp ty er wy wd rf lt ln th tr mv fo (sp + 1) true (va_up td kx (hrI inp ty sp))) := hD
                                              refine lv_aload_n hx hb dX5_readsOrder_268 rfl (lv_at hl 1 rfl) ?_
                                              refine lv_dup hx hb dX5_readsOrder_269 rfl ?_
                                              refine va_get (D := G.1) (ci := 4) (v := .int (nI (sp + 1))) (C := RX5) (T := TX5) (N := 21) hx hb hts in_X5 hown hK hP 0 rfl rfl 18 (by decide) (hts _ q1745) (fun _ h9 => h9) rfl dX5_readsOrder_270 ?_
                                              refine lv_iconst (v := nI 1) hx hb dX5_readsOrder_273 (by decide) ?_
                                              refine n_isub hx hb (by omega) dX5_readsOrder_274 ?_
                                              refine va_put (D := G.1) (ci := 4) (v := .int (nI ((sp + 1) - 1))) (ty := .int) (C := RX5) (T := TX5) (N := 21) hx hb hts in_X5 tyX5 tyX5_ok nmX5 hown hK hP hD hS 0 rfl rfl 18 (by decide) (hts _ q1745) (fun _ h9 => h9) rfl (by decide +kernel) rfl rfl (Nat.le_of_ble_eq_true rfl) dX5_readsOrder_275 (fun H locs hP hD hS => ?_)
                                              have hP : va_P G.1 CL (MW G mh md nr nc pL pG pB pk bf hi sv ch hs inp ty er wy wd rf lt ln th tr mv fo ((sp + 1) - 1) true (va_up td kx (hrI inp ty sp))) _ := hP
                                              have hD : va_D A (MW G mh md nr nc pL pG pB pk bf hi sv ch hs inp ty er wy wd rf lt ln th tr mv fo ((sp + 1) - 1) true (va_up td kx (hrI inp ty sp))) := hD
                                              subst hQ
                                              rw [ordP_d (by first | assumption | (rw [show hrI inp ty sp = nI _ by assumption]; decide)) (by first | assumption | (rw [show hrI inp ty sp = nI _ by assumption]; decide)) (by first | assumption | (rw [show hrI inp ty sp = nI _ by assumption]; decide)) (by first | assumption | (rw [show hrI inp ty sp = nI _ by assumption]; decide)) (by first | assumption | (rw [show hrI inp ty sp = nI _ by assumption]; decide)) (by first | assumption | (rw [show hrI inp ty sp = nI _ by assumption]; decide)) (by first | assumption | (rw [show hrI inp ty sp = nI _ by assumption]; decide))]
                                              exact ret_v hx hb hr hlk (va_up td kx (hrI inp ty sp)) ⟨fun h9 => absurd (show true = false from h9) (by decide), HX1⟩ hP hD hS dX5_readsOrder_278
                                            · skip
                                              by_cases k23_120 : (hrI inp ty sp) = nI 120
                                              · skip
                                                refine lv_tableIn (off := 189) (tgt := 212) hx hb dX5_readsOrder_23 (by rw [k23_120]; decide) (by rw [k23_120]; decide) (by rw [k23_120]; decide) (by decide) ?_
                                                have hn1 : sp + 1 ≤ ty := hrI_lt (show hrI inp ty sp = nI _ by assumption) (by decide)
                                                refine lv_aload_n hx hb dX5_readsOrder_212 rfl (lv_at hl 1 rfl) ?_
                                                refine va_get (D := G.1) (ci := 4) (v := .ref (md 8)) (C := RX5) (T := TX5) (N := 21) hx hb hts in_X5 hown hK hP 0 rfl rfl 20 (by decide) (hts _ q1747) (fun _ h9 => h9) rfl dX5_readsOrder_213 ?_
                                                refine lv_iload_n hx hb dX5_readsOrder_216 rfl (lv_at hl 2 rfl) ?_
                                                refine lv_iconst (v := nI 1) hx hb dX5_readsOrder_217 (by decide) ?_
                                                refine n_iadd hx hb dX5_readsOrder_218 ?_
                                                refine lv_aload_n hx hb dX5_readsOrder_219 rfl (lv_at hl 1 rfl) ?_
                                                refine lv_iconst (v := nI 1) hx hb dX5_readsOrder_220 (by decide) ?_
                                                refine callVi (As := [.int (nI 1)]) (rest := [.int (nI (kx + 1)), .ref (md 8)]) (wc := (MW G mh md nr nc pL pG pB pk bf hi sv ch hs inp ty er wy wd rf lt ln th tr mv fo (sp + 1) false (va_up td kx (hrI inp ty sp)))) (wr := ([] : va_W)) ⟨hx, hb, hml, hown, hts⟩ (m_X5_figures l G mh md nr nc pL pG pB pk bf hi sv ch hs inp ty er wy wd rf lt ln th tr mv fo (sp + 1) false (va_up td kx (hrI inp ty sp)) 1 (by first | exact hn1 | exact g1.2 | exact g2.2) (by first | assumption | omega) (by first | assumption | omega) (by first | assumption | omega)) (cwV 1 hts (lw_V q2121 q2123 qs82 q105 q2124) rfl rfl rfl (by decide +kernel) ⟨Nat.le_of_ble_eq_true rfl, Nat.le_of_ble_eq_true rfl⟩) hK hZ hA hP hD hS [0, 1, 2, 3, 4, 5, 6, 7, 8, 9] [] rfl rfl (by decide) (by decide) (by decide) 0 4 rfl rfl rfl hl.1 (Nat.le_of_ble_eq_true rfl) ⟨Nat.le_of_ble_eq_true rfl, Nat.le_of_ble_eq_true rfl⟩ rfl dX5_readsOrder_221 (fun r9 u9 H locs hw9 hP hD hS => ?_)
                                                subst hw9
                                                have hP : va_P G.1 CL (MW G mh md nr nc pL pG pB pk bf hi sv ch hs inp ty er wy wd rf lt ln th tr mv fo ((fgS inp ty 1 false (sp + 1)).2.2) ((fgS inp ty 1 false (sp + 1)).2.1) (va_up td kx (hrI inp ty sp))) _ := hP
                                                have hD : va_D A (MW G mh md nr nc pL pG pB pk bf hi sv ch hs inp ty er wy wd rf lt ln th tr mv fo ((fgS inp ty 1 false (sp + 1)).2.2) ((fgS inp ty 1 false (sp + 1)).2.1) (va_up td kx (hrI inp ty sp))) := hD
                                                refine r_iast hx hb hK hP hD hS 9 3 rfl rfl (by omega) (by decide) dX5_readsOrder_224 (fun H locs hP hD hS => ?_)
                                                have hP : va_P G.1 CL (MW G mh md nr nc pL pG pB pk bf hi sv ch hs inp ty er wy wd rf lt ln th tr mv fo ((fgS inp ty 1 false (sp + 1)).2.2) ((fgS inp ty 1 false (sp + 1)).2.1) (va_up (va_up td kx (hrI inp ty sp)) (kx + 1) (nI ((fgS inp ty 1 false (sp + 1)).1)))) _ := hP
                                                have hD : va_D A (MW G mh md nr nc pL pG pB pk bf hi sv ch hs inp ty er wy wd rf lt ln th tr mv fo ((fgS inp ty 1 false (sp + 1)).2.2) ((fgS inp ty 1 false (sp + 1)).2.1) (va_up (va_up td kx (hrI inp ty sp)) (kx + 1) (nI ((fgS inp ty 1 false (sp + 1)).1)))) := hD
                                                refine lv_goto (tgt := 278) hx hb dX5_readsOrder_225 (by decide) ?_
                                                subst hQ
                                                rw [ordP_x k23_120]
                                                exact ret_v hx hb hr hlk (va_up (va_up td kx (hrI inp ty sp)) (kx + 1) (nI ((fgS inp ty 1 false (sp + 1)).1))) ⟨fun _ => (HX2 (b := 0) (Or.inr k23_120)).1, (HX2 (b := 0) (Or.inr k23_120)).2⟩ hP hD hS dX5_readsOrder_278
                                              · skip
                                                refine lv_tableOut (tgt := 263) hx hb dX5_readsOrder_23 (by have := lv_neT k23_98 (show (nI 98 : Int32).toInt = 98 by decide); have := lv_neT k23_99 (show (nI 99 : Int32).toInt = 99 by decide); have := lv_neT k23_100 (show (nI 100 : Int32).toInt = 100 by decide); have := lv_neT k23_101 (show (nI 101 : Int32).toInt = 101 by decide); have := lv_neT k23_102 (show (nI 102 : Int32).toInt = 102 by decide); have := lv_neT k23_103 (show (nI 103 : Int32).toInt = 103 by decide); have := lv_neT k23_104 (show (nI 104 : Int32).toInt = 104 by decide); have := lv_neT k23_105 (show (nI 105 : Int32).toInt = 105 by decide); have := lv_neT k23_106 (show (nI 106 : Int32).toInt = 106 by decide); have := lv_neT k23_107 (show (nI 107 : Int32).toInt = 107 by decide); have := lv_neT k23_108 (show (nI 108 : Int32).toInt = 108 by decide); have := lv_neT k23_109 (show (nI 109 : Int32).toInt = 109 by decide); have := lv_neT k23_110 (show (nI 110 : Int32).toInt = 110 by decide); have := lv_neT k23_111 (show (nI 111 : Int32).toInt = 111 by decide); have := lv_neT k23_112 (show (nI 112 : Int32).toInt = 112 by decide); have := lv_neT k23_113 (show (nI 113 : Int32).toInt = 113 by decide); have := lv_neT k23_114 (show (nI 114 : Int32).toInt = 114 by decide); have := lv_neT k23_115 (show (nI 115 : Int32).toInt = 115 by decide); have := lv_neT k23_116 (show (nI 116 : Int32).toInt = 116 by decide); have := lv_neT k23_117 (show (nI 117 : Int32).toInt = 117 by decide); have := lv_neT k23_118 (show (nI 118 : Int32).toInt = 118 by decide); have := lv_neT k23_119 (show (nI 119 : Int32).toInt = 119 by decide); have := lv_neT k23_120 (show (nI 120 : Int32).toInt = 120 by decide); omega) (by decide) ?_
                                                refine lv_aload_n hx hb dX5_readsOrder_263 rfl (lv_at hl 1 rfl) ?_
                                                refine lv_iconst (v := nI 1) hx hb dX5_readsOrder_264 (by decide) ?_
                                                refine va_put (D := G.1) (ci := 4) (v := .int (bI true)) (ty := .boolean) (C := RX5) (T := TX5) (N := 21) hx hb hts in_X5 tyX5 tyX5_ok nmX5 hown hK hP hD hS 0 rfl rfl 19 (by decide) (hts _ q1746) (fun _ h9 => h9) rfl (by decide +kernel) (bI_nar _) rfl (Nat.le_of_ble_eq_true rfl) dX5_readsOrder_265 (fun H locs hP hD hS => ?_)
                                                have hP : va_P G.1 CL (MW G mh md nr nc pL pG pB pk bf hi sv ch hs inp ty er wy wd rf lt ln th tr mv fo (sp + 1) true (va_up td kx (hrI inp ty sp))) _ := hP
                                                have hD : va_D A (MW G mh md nr nc pL pG pB pk bf hi sv ch hs inp ty er wy wd rf lt ln th tr mv fo (sp + 1) true (va_up td kx (hrI inp ty sp))) := hD
                                                refine lv_aload_n hx hb dX5_readsOrder_268 rfl (lv_at hl 1 rfl) ?_
                                                refine lv_dup hx hb dX5_readsOrder_269 rfl ?_
                                                refine va_get (D := G.1) (ci := 4) (v := .int (nI (sp + 1))) (C := RX5) (T := TX5) (N := 21) hx hb hts in_X5 hown hK hP 0 rfl rfl 18 (by decide) (hts _ q1745) (fun _ h9 => h9) rfl dX5_readsOrder_270 ?_
                                                refine lv_iconst (v := nI 1) hx hb dX5_readsOrder_273 (by decide) ?_
                                                refine n_isub hx hb (by omega) dX5_readsOrder_274 ?_
                                                refine va_put (D := G.1) (ci := 4) (v := .int (nI ((sp + 1) - 1))) (ty := .int) (C := RX5) (T := TX5) (N := 21) hx hb hts in_X5 tyX5 tyX5_ok nmX5 hown hK hP hD hS 0 rfl rfl 18 (by decide) (hts _ q1745) (fun _ h9 => h9) rfl (by decide +kernel) rfl rfl (Nat.le_of_ble_eq_true rfl) dX5_readsOrder_275 (fun H locs hP hD hS => ?_)
                                                have hP : va_P G.1 CL (MW G mh md nr nc pL pG pB pk bf hi sv ch hs inp ty er wy wd rf lt ln th tr mv fo ((sp + 1) - 1) true (va_up td kx (hrI inp ty sp))) _ := hP
                                                have hD : va_D A (MW G mh md nr nc pL pG pB pk bf hi sv ch hs inp ty er wy wd rf lt ln th tr mv fo ((sp + 1) - 1) true (va_up td kx (hrI inp ty sp))) := hD
                                                subst hQ
                                                rw [ordP_d (by first | assumption | (rw [show hrI inp ty sp = nI _ by assumption]; decide)) (by first | assumption | (rw [show hrI inp ty sp = nI _ by assumption]; decide)) (by first | assumption | (rw [show hrI inp ty sp = nI _ by assumption]; decide)) (by first | assumption | (rw [show hrI inp ty sp = nI _ by assumption]; decide)) (by first | assumption | (rw [show hrI inp ty sp = nI _ by assumption]; decide)) (by first | assumption | (rw [show hrI inp ty sp = nI _ by assumption]; decide)) (by first | assumption | (rw [show hrI inp ty sp = nI _ by assumption]; decide))]
                                                exact ret_v hx hb hr hlk (va_up td kx (hrI inp ty sp)) ⟨fun h9 => absurd (show true = false from h9) (by decide), HX1⟩ hP hD hS dX5_readsOrder_278
set_option maxHeartbeats 4000000 in
set_option maxRecDepth 100000 in
theorem m_X5_does (l : Launch) (G : GG) (mh : Nat) (md : Nat → Nat) (nr : Nat) (nc : Nat) (pL : Nat → Nat) (pG : Nat → Nat) (pB : Nat → Bool) (pk : Nat → Int32) (bf : Nat → Int32) (hi : Nat → Int32) (sv : Nat → Int32) (ch : Nat) (hs : Bool) (inp : Nat → Nat) (ty : Nat) (er : Int32) (wy : Int32) (wd : Int32) (rf : Bool) (lt : Nat → Nat) (ln : Nat) (th : Int32) (tr : Nat → Nat) (mv : Nat → Nat) (fo : Int32) (sp : Nat) (wr : Bool) (td : Nat → Int32) (kx : Nat) (od : ORD) (hd : 2 ≤ nr ∧ nr ≤ 3 ∧ 2 ≤ nc ∧ nc ≤ 3) (hkx : kx + 2 < 180) (hO : HoldX td kx od) (hLR : ∀ q, q < nr * nc → 97 ≤ pL q ∧ pL q ≤ 108) (hKR : ∀ q, q < nr * nc → pG q = 46 ∨ (97 ≤ pG q ∧ pG q ≤ 108)) : MM l G yX5_does cX5_does 4 (some .int) ⟨5, 0, 0, 113⟩ [.ref mh, .int (nI kx)] (MW G mh md nr nc pL pG pB pk bf hi sv ch hs inp ty er wy wd rf lt ln th tr mv fo sp wr td) (Qi_ G (fun (r : Int32) (u : (Nat → Nat) × (Nat → Nat)) => r = (ordO (fun _ => 97) (nr, nc, pL, pG, pB, pk) od).2.2.1) (fun (u : (Nat → Nat) × (Nat → Nat)) => (MW G mh md ((ordO (fun _ => 97) (nr, nc, pL, pG, pB, pk) od).2.1.1) ((ordO (fun _ => 97) (nr, nc, pL, pG, pB, pk) od).2.1.2.1) ((ordO (fun _ => 97) (nr, nc, pL, pG, pB, pk) od).2.1.2.2.1) ((ordO (fun _ => 97) (nr, nc, pL, pG, pB, pk) od).2.1.2.2.2.1) ((ordO (fun _ => 97) (nr, nc, pL, pG, pB, pk) od).2.1.2.2.2.2.1) ((ordO (fun _ => 97) (nr, nc, pL, pG, pB, pk) od).2.1.2.2.2.2.2) bf hi sv ch hs inp ty er (oWy (ordO (fun _ => 97) (nr, nc, pL, pG, pB, pk) od) wy) (oWd (ordO (fun _ => 97) (nr, nc, pL, pG, pB, pk) od) wd) (oRf (ordO (fun _ => 97) (nr, nc, pL, pG, pB, pk) od) rf) lt ln (nI (ordO (fun _ => 97) (nr, nc, pL, pG, pB, pk) od).1) u.1 u.2 fo sp wr td))) := by
  refine MM.of (by decide) (Nat.le_of_ble_eq_true rfl) ?_
  intro p e s m args below meth cd A C hini hA hK hZ hP hD ls hl
  generalize hQ : MQ below ((Qi_ G (fun (r : Int32) (u : (Nat → Nat) × (Nat → Nat)) => r = (ordO (fun _ => 97) (nr, nc, pL, pG, pB, pk) od).2.2.1) (fun (u : (Nat → Nat) × (Nat → Nat)) => (MW G mh md ((ordO (fun _ => 97) (nr, nc, pL, pG, pB, pk) od).2.1.1) ((ordO (fun _ => 97) (nr, nc, pL, pG, pB, pk) od).2.1.2.1) ((ordO (fun _ => 97) (nr, nc, pL, pG, pB, pk) od).2.1.2.2.1) ((ordO (fun _ => 97) (nr, nc, pL, pG, pB, pk) od).2.1.2.2.2.1) ((ordO (fun _ => 97) (nr, nc, pL, pG, pB, pk) od).2.1.2.2.2.2.1) ((ordO (fun _ => 97) (nr, nc, pL, pG, pB, pk) od).2.1.2.2.2.2.2) bf hi sv ch hs inp ty er (oWy (ordO (fun _ => 97) (nr, nc, pL, pG, pB, pk) od) wy) (oWd (ordO (fun _ => 97) (nr, nc, pL, pG, pB, pk) od) wd) (oRf (ordO (fun _ => 97) (nr, nc, pL, pG, pB, pk) od) rf) lt ln (nI (ordO (fun _ => 97) (nr, nc, pL, pG, pB, pk) od).1) u.1 u.2 fo sp wr td))) A) args s (⟨5, 0, 0, 113⟩ : Room).cells (⟨5, 0, 0, 113⟩ : Room).slots A = Q
  obtain ⟨hx, hb, hr, hts, hown, hlk, hml⟩ := C
  have hown : s.vm.findClass RX5 = some m.cls := hown
  have hS : va_S A s.heap s.heap [] := va_S.rf
  have hl : lv_has ls 4 [(0, .ref mh), (1, .int (nI kx))] := hl
  have hmu := dm_mul hd
  refine lv_aload_n hx hb dX5_does_0 rfl (lv_at hl 0 rfl) ?_
  refine va_get (D := G.1) (ci := 4) (v := .ref (md 8)) (C := RX5) (T := TX5) (N := 21) hx hb hts in_X5 hown hK hP 0 rfl rfl 20 (by decide) (hts _ q1747) (fun _ h9 => h9) rfl dX5_does_1 ?_
  refine lv_iload_n hx hb dX5_does_4 rfl (lv_at hl 1 rfl) ?_
  refine lv_iconst (v := nI 1) hx hb dX5_does_5 (by decide) ?_
  refine n_iadd hx hb dX5_does_6 ?_
  refine r_iald hx hb hK hP 9 3 rfl rfl (by omega) (by decide) dX5_does_7 ?_
  refine lv_istore_n (lv' := [(2, .int (td (kx + 1))), (0, .ref mh), (1, .int (nI kx))]) hx hb dX5_does_8 rfl hl (by decide) rfl (fun ls hl => ?_)
  refine lv_aload_n hx hb dX5_does_9 rfl (lv_at hl 1 rfl) ?_
  refine va_get (D := G.1) (ci := 4) (v := .ref (md 8)) (C := RX5) (T := TX5) (N := 21) hx hb hts in_X5 hown hK hP 0 rfl rfl 20 (by decide) (hts _ q1747) (fun _ h9 => h9) rfl dX5_does_10 ?_
  refine lv_iload_n hx hb dX5_does_13 rfl (lv_at hl 2 rfl) ?_
  refine lv_iconst (v := nI 2) hx hb dX5_does_14 (by decide) ?_
  refine n_iadd hx hb dX5_does_15 ?_
  refine r_iald hx hb hK hP 9 3 rfl rfl (by omega) (by decide) dX5_does_16 ?_
  refine lv_istore_n (lv' := [(3, .int (td (kx + 2))), (2, .int (td (kx + 1))), (0, .ref mh), (1, .int (nI kx))]) hx hb dX5_does_17 rfl hl (by decide) rfl (fun ls hl => ?_)
  refine lv_aload_n hx hb dX5_does_18 rfl (lv_at hl 2 rfl) ?_
  refine va_get (D := G.1) (ci := 4) (v := .ref (md 8)) (C := RX5) (T := TX5) (N := 21) hx hb hts in_X5 hown hK hP 0 rfl rfl 20 (by decide) (hts _ q1747) (fun _ h9 => h9) rfl dX5_does_19 ?_
  refine lv_iload_n hx hb dX5_does_22 rfl (lv_at hl 3 rfl) ?_
  refine r_iald hx hb hK hP 9 3 rfl rfl (by omega) (by decide) dX5_does_23 ?_
  by_cases k24_98 : (td kx) = nI 98
  · skip
    refine lv_lookup (off := 60) (tgt := 84) hx hb dX5_does_24 (by decide) (by rw [k24_98]; decide) (by decide) ?_
    refine lv_aload_n hx hb dX5_does_84 rfl (lv_at hl 2 rfl) ?_
    refine lv_iload_n hx hb dX5_does_85 rfl (lv_at hl 1 rfl) ?_
    refine lv_iload_n hx hb dX5_does_86 rfl (lv_at hl 0 rfl) ?_
    refine callVi (As := [.int (td (kx + 1)), .int (td (kx + 2))]) (rest := []) (wc := (MW G mh md nr nc pL pG pB pk bf hi sv ch hs inp ty er wy wd rf lt ln th tr mv fo sp wr td)) (wr := ([] : va_W)) ⟨hx, hb, hml, hown, hts⟩ (m_X5_boards l G mh md nr nc pL pG pB pk bf hi sv ch hs inp ty er wy wd rf lt ln th tr mv fo sp wr td (td (kx + 1)) (td (kx + 2)) (by first | assumption | omega)) (cwV 2 hts (lw_V q1806 q1808 qs36 q105 q1809) rfl rfl rfl (by decide +kernel) ⟨Nat.le_of_ble_eq_true rfl, Nat.le_of_ble_eq_true rfl⟩) hK hZ hA hP hD hS [0, 1, 2, 3, 4, 5, 6, 7, 8, 9] [] rfl rfl (by decide) (by decide) (by decide) 0 4 rfl rfl rfl hl.1 (Nat.le_of_ble_eq_true rfl) ⟨Nat.le_of_ble_eq_true rfl, Nat.le_of_ble_eq_true rfl⟩ rfl dX5_does_87 (fun r9 u9 H locs hw9 hP hD hS => ?_)
    subst hw9
    have hP : va_P G.1 CL (MW G mh md ((oBoard (fun _ => 97) (nr, nc, pL, pG, pB, pk) (td (kx + 1)) (td (kx + 2))).2.1.1) ((oBoard (fun _ => 97) (nr, nc, pL, pG, pB, pk) (td (kx + 1)) (td (kx + 2))).2.1.2.1) ((oBoard (fun _ => 97) (nr, nc, pL, pG, pB, pk) (td (kx + 1)) (td (kx + 2))).2.1.2.2.1) ((oBoard (fun _ => 97) (nr, nc, pL, pG, pB, pk) (td (kx + 1)) (td (kx + 2))).2.1.2.2.2.1) ((oBoard (fun _ => 97) (nr, nc, pL, pG, pB, pk) (td (kx + 1)) (td (kx + 2))).2.1.2.2.2.2.1) ((oBoard (fun _ => 97) (nr, nc, pL, pG, pB, pk) (td (kx + 1)) (td (kx + 2))).2.1.2.2.2.2.2) bf hi sv ch hs inp ty er (oWy (oBoard (fun _ => 97) (nr, nc, pL, pG, pB, pk) (td (kx + 1)) (td (kx + 2))) wy) (oWd (oBoard (fun _ => 97) (nr, nc, pL, pG, pB, pk) (td (kx + 1)) (td (kx + 2))) wd) (oRf (oBoard (fun _ => 97) (nr, nc, pL, pG, pB, pk) (td (kx + 1)) (td (kx + 2))) rf) lt ln (nI (oBoard (fun _ => 97) (nr, nc, pL, pG, pB, pk) (td (kx + 1)) (td (kx + 2))).1) tr mv fo sp wr td) _ := hP
    have hD : va_D A (MW G mh md ((oBoard (fun _ => 97) (nr, nc, pL, pG, pB, pk) (td (kx + 1)) (td (kx + 2))).2.1.1) ((oBoard (fun _ => 97) (nr, nc, pL, pG, pB, pk) (td (kx + 1)) (td (kx + 2))).2.1.2.1) ((oBoard (fun _ => 97) (nr, nc, pL, pG, pB, pk) (td (kx + 1)) (td (kx + 2))).2.1.2.2.1) ((oBoard (fun _ => 97) (nr, nc, pL, pG, pB, pk) (td (kx + 1)) (td (kx + 2))).2.1.2.2.2.1) ((oBoard (fun _ => 97) (nr, nc, pL, pG, pB, pk) (td (kx + 1)) (td (kx + 2))).2.1.2.2.2.2.1) ((oBoard (fun _ => 97) (nr, nc, pL, pG, pB, pk) (td (kx + 1)) (td (kx + 2))).2.1.2.2.2.2.2) bf hi sv ch hs inp ty er (oWy (oBoard (fun _ => 97) (nr, nc, pL, pG, pB, pk) (td (kx + 1)) (td (kx + 2))) wy) (oWd (oBoard (fun _ => 97) (nr, nc, pL, pG, pB, pk) (td (kx + 1)) (td (kx + 2))) wd) (oRf (oBoard (fun _ => 97) (nr, nc, pL, pG, pB, pk) (td (kx + 1)) (td (kx + 2))) rf) lt ln (nI (oBoard (fun _ => 97) (nr, nc, pL, pG, pB, pk) (td (kx + 1)) (td (kx + 2))).1) tr mv fo sp wr td) := hD
    subst hQ
    rw [show ordO (fun _ => 97) (nr, nc, pL, pG, pB, pk) od = oBoard (fun _ => 97) (nr, nc, pL, pG, pB, pk) (td (kx + 1)) (td (kx + 2)) from (by unfold ordO; rw [← hO.1, if_pos k24_98, hO.2.1, hO.b (by rw [← hO.1, k24_98]; decide) (by rw [← hO.1, k24_98]; decide)])]
    exact ret_i hx hb hr hlk (⟨tr, mv⟩) rfl hP hD hS rfl dX5_does_90
  · skip
    by_cases k24_103 : (td kx) = nI 103
    · skip
      refine lv_lookup (off := 81) (tgt := 105) hx hb dX5_does_24 (by decide) (by rw [k24_103]; decide) (by decide) ?_
      refine lv_aload_n hx hb dX5_does_105 rfl (lv_at hl 2 rfl) ?_
      refine lv_iload_n hx hb dX5_does_106 rfl (lv_at hl 1 rfl) ?_
      refine lv_iload_n hx hb dX5_does_107 rfl (lv_at hl 0 rfl) ?_
      refine callVi (As := [.int (td (kx + 1)), .int (td (kx + 2))]) (rest := []) (wc := (MW G mh md nr nc pL pG pB pk bf hi sv ch hs inp ty er wy wd rf lt ln th tr mv fo sp wr td)) (wr := ([] : va_W)) ⟨hx, hb, hml, hown, hts⟩ (m_X5_goals l G mh md nr nc pL pG pB pk bf hi sv ch hs inp ty er wy wd rf lt ln th tr mv fo sp wr td (td (kx + 1)) (td (kx + 2)) (by first | assumption | omega) (by first | assumption | omega)) (cwV 2 hts (lw_V q1859 q1861 qs45 q105 q1862) rfl rfl rfl (by decide +kernel) ⟨Nat.le_of_ble_eq_true rfl, Nat.le_of_ble_eq_true rfl⟩) hK hZ hA hP hD hS [0, 1, 2, 3, 4, 5, 6, 7, 8, 9] [] rfl rfl (by decide) (by decide) (by decide) 0 4 rfl rfl rfl hl.1 (Nat.le_of_ble_eq_true rfl) ⟨Nat.le_of_ble_eq_true rfl, Nat.le_of_ble_eq_true rfl⟩ rfl dX5_does_108 (fun r9 u9 H locs hw9 hP hD hS => ?_)
      subst hw9
      have hP : va_P G.1 CL (MW G mh md ((oGoal (nr, nc, pL, pG, pB, pk) (td (kx + 1)) (td (kx + 2))).2.1.1) ((oGoal (nr, nc, pL, pG, pB, pk) (td (kx + 1)) (td (kx + 2))).2.1.2.1) ((oGoal (nr, nc, pL, pG, pB, pk) (td (kx + 1)) (td (kx + 2))).2.1.2.2.1) ((oGoal (nr, nc, pL, pG, pB, pk) (td (kx + 1)) (td (kx + 2))).2.1.2.2.2.1) ((oGoal (nr, nc, pL, pG, pB, pk) (td (kx + 1)) (td (kx + 2))).2.1.2.2.2.2.1) ((oGoal (nr, nc, pL, pG, pB, pk) (td (kx + 1)) (td (kx + 2))).2.1.2.2.2.2.2) bf hi sv ch hs inp ty er (oWy (oGoal (nr, nc, pL, pG, pB, pk) (td (kx + 1)) (td (kx + 2))) wy) (oWd (oGoal (nr, nc, pL, pG, pB, pk) (td (kx + 1)) (td (kx + 2))) wd) (oRf (oGoal (nr, nc, pL, pG, pB, pk) (td (kx + 1)) (td (kx + 2))) rf) lt ln (nI (oGoal (nr, nc, pL, pG, pB, pk) (td (kx + 1)) (td (kx + 2))).1) tr mv fo sp wr td) _ := hP
      have hD : va_D A (MW G mh md ((oGoal (nr, nc, pL, pG, pB, pk) (td (kx + 1)) (td (kx + 2))).2.1.1) ((oGoal (nr, nc, pL, pG, pB, pk) (td (kx + 1)) (td (kx + 2))).2.1.2.1) ((oGoal (nr, nc, pL, pG, pB, pk) (td (kx + 1)) (td (kx + 2))).2.1.2.2.1) ((oGoal (nr, nc, pL, pG, pB, pk) (td (kx + 1)) (td (kx + 2))).2.1.2.2.2.1) ((oGoal (nr, nc, pL, pG, pB, pk) (td (kx + 1)) (td (kx + 2))).2.1.2.2.2.2.1) ((oGoal (nr, nc, pL, pG, pB, pk) (td (kx + 1)) (td (kx + 2))).2.1.2.2.2.2.2) bf hi sv ch hs inp ty er (oWy (oGoal (nr, nc, pL, pG, pB, pk) (td (kx + 1)) (td (kx + 2))) wy) (oWd (oGoal (nr, nc, pL, pG, pB, pk) (td (kx + 1)) (td (kx + 2))) wd) (oRf (oGoal (nr, nc, pL, pG, pB, pk) (td (kx + 1)) (td (kx + 2))) rf) lt ln (nI (oGoal (nr, nc, pL, pG, pB, pk) (td (kx + 1)) (td (kx + 2))).1) tr mv fo sp wr td) := hD
      subst hQ
      rw [show ordO (fun _ => 97) (nr, nc, pL, pG, pB, pk) od = oGoal (nr, nc, pL, pG, pB, pk) (td (kx + 1)) (td (kx + 2)) from (by unfold ordO; rw [← hO.1, if_neg (by rw [k24_103]; decide), if_neg (by rw [k24_103]; decide), if_neg (by rw [k24_103]; decide), if_pos k24_103, hO.2.1, hO.b (by rw [← hO.1, k24_103]; decide) (by rw [← hO.1, k24_103]; decide)])]
      exact ret_i hx hb hr hlk (⟨tr, mv⟩) rfl hP hD hS rfl dX5_does_111
    · skip
      by_cases k24_112 : (td kx) = nI 112
      · skip
        refine lv_lookup (off := 74) (tgt := 98) hx hb dX5_does_24 (by decide) (by rw [k24_112]; decide) (by decide) ?_
        refine lv_aload_n hx hb dX5_does_98 rfl (lv_at hl 2 rfl) ?_
        refine lv_iload_n hx hb dX5_does_99 rfl (lv_at hl 1 rfl) ?_
        refine lv_iload_n hx hb dX5_does_100 rfl (lv_at hl 0 rfl) ?_
        refine callVi (As := [.int (td (kx + 1)), .int (td (kx + 2))]) (rest := []) (wc := (MW G mh md nr nc pL pG pB pk bf hi sv ch hs inp ty er wy wd rf lt ln th tr mv fo sp wr td)) (wr := ([] : va_W)) ⟨hx, hb, hml, hown, hts⟩ (m_X5_puts l G mh md nr nc pL pG pB pk bf hi sv ch hs inp ty er wy wd rf lt ln th tr mv fo sp wr td (td (kx + 1)) (td (kx + 2)) (by first | assumption | omega) (by first | assumption | omega)) (cwV 2 hts (lw_V q1833 q1835 qs41 q105 q1836) rfl rfl rfl (by decide +kernel) ⟨Nat.le_of_ble_eq_true rfl, Nat.le_of_ble_eq_true rfl⟩) hK hZ hA hP hD hS [0, 1, 2, 3, 4, 5, 6, 7, 8, 9] [] rfl rfl (by decide) (by decide) (by decide) 0 4 rfl rfl rfl hl.1 (Nat.le_of_ble_eq_true rfl) ⟨Nat.le_of_ble_eq_true rfl, Nat.le_of_ble_eq_true rfl⟩ rfl dX5_does_101 (fun r9 u9 H locs hw9 hP hD hS => ?_)
        subst hw9
        have hP : va_P G.1 CL (MW G mh md ((oPut (nr, nc, pL, pG, pB, pk) (td (kx + 1)) (td (kx + 2))).2.1.1) ((oPut (nr, nc, pL, pG, pB, pk) (td (kx + 1)) (td (kx + 2))).2.1.2.1) ((oPut (nr, nc, pL, pG, pB, pk) (td (kx + 1)) (td (kx + 2))).2.1.2.2.1) ((oPut (nr, nc, pL, pG, pB, pk) (td (kx + 1)) (td (kx + 2))).2.1.2.2.2.1) ((oPut (nr, nc, pL, pG, pB, pk) (td (kx + 1)) (td (kx + 2))).2.1.2.2.2.2.1) ((oPut (nr, nc, pL, pG, pB, pk) (td (kx + 1)) (td (kx + 2))).2.1.2.2.2.2.2) bf hi sv ch hs inp ty er (oWy (oPut (nr, nc, pL, pG, pB, pk) (td (kx + 1)) (td (kx + 2))) wy) (oWd (oPut (nr, nc, pL, pG, pB, pk) (td (kx + 1)) (td (kx + 2))) wd) (oRf (oPut (nr, nc, pL, pG, pB, pk) (td (kx + 1)) (td (kx + 2))) rf) lt ln (nI (oPut (nr, nc, pL, pG, pB, pk) (td (kx + 1)) (td (kx + 2))).1) tr mv fo sp wr td) _ := hP
        have hD : va_D A (MW G mh md ((oPut (nr, nc, pL, pG, pB, pk) (td (kx + 1)) (td (kx + 2))).2.1.1) ((oPut (nr, nc, pL, pG, pB, pk) (td (kx + 1)) (td (kx + 2))).2.1.2.1) ((oPut (nr, nc, pL, pG, pB, pk) (td (kx + 1)) (td (kx + 2))).2.1.2.2.1) ((oPut (nr, nc, pL, pG, pB, pk) (td (kx + 1)) (td (kx + 2))).2.1.2.2.2.1) ((oPut (nr, nc, pL, pG, pB, pk) (td (kx + 1)) (td (kx + 2))).2.1.2.2.2.2.1) ((oPut (nr, nc, pL, pG, pB, pk) (td (kx + 1)) (td (kx + 2))).2.1.2.2.2.2.2) bf hi sv ch hs inp ty er (oWy (oPut (nr, nc, pL, pG, pB, pk) (td (kx + 1)) (td (kx + 2))) wy) (oWd (oPut (nr, nc, pL, pG, pB, pk) (td (kx + 1)) (td (kx + 2))) wd) (oRf (oPut (nr, nc, pL, pG, pB, pk) (td (kx + 1)) (td (kx + 2))) rf) lt ln (nI (oPut (nr, nc, pL, pG, pB, pk) (td (kx + 1)) (td (kx + 2))).1) tr mv fo sp wr td) := hD
        subst hQ
        rw [show ordO (fun _ => 97) (nr, nc, pL, pG, pB, pk) od = oPut (nr, nc, pL, pG, pB, pk) (td (kx + 1)) (td (kx + 2)) from (by unfold ordO; rw [← hO.1, if_neg (by rw [k24_112]; decide), if_neg (by rw [k24_112]; decide), if_pos k24_112, hO.2.1, hO.b (by rw [← hO.1, k24_112]; decide) (by rw [← hO.1, k24_112]; decide)])]
        exact ret_i hx hb hr hlk (⟨tr, mv⟩) rfl hP hD hS rfl dX5_does_104
      · skip
        by_cases k24_115 : (td kx) = nI 115
        · skip
          refine lv_lookup (off := 67) (tgt := 91) hx hb dX5_does_24 (by decide) (by rw [k24_115]; decide) (by decide) ?_
          refine lv_aload_n hx hb dX5_does_91 rfl (lv_at hl 2 rfl) ?_
          refine lv_iload_n hx hb dX5_does_92 rfl (lv_at hl 1 rfl) ?_
          refine lv_iload_n hx hb dX5_does_93 rfl (lv_at hl 0 rfl) ?_
          refine callVi (As := [.int (td (kx + 1)), .int (td (kx + 2))]) (rest := []) (wc := (MW G mh md nr nc pL pG pB pk bf hi sv ch hs inp ty er wy wd rf lt ln th tr mv fo sp wr td)) (wr := ([] : va_W)) ⟨hx, hb, hml, hown, hts⟩ (m_X5_swaps l G mh md nr nc pL pG pB pk bf hi sv ch hs inp ty er wy wd rf lt ln th tr mv fo sp wr td (td (kx + 1)) (td (kx + 2)) (by first | assumption | omega) (by first | assumption | omega) (by first | assumption | omega)) (cwV 2 hts (lw_V q1919 q1921 qs58 q105 q1922) rfl rfl rfl (by decide +kernel) ⟨Nat.le_of_ble_eq_true rfl, Nat.le_of_ble_eq_true rfl⟩) hK hZ hA hP hD hS [0, 1, 2, 3, 4, 5, 6, 7, 8, 9] [] rfl rfl (by decide) (by decide) (by decide) 0 4 rfl rfl rfl hl.1 (Nat.le_of_ble_eq_true rfl) ⟨Nat.le_of_ble_eq_true rfl, Nat.le_of_ble_eq_true rfl⟩ rfl dX5_does_94 (fun r9 u9 H locs hw9 hP hD hS => ?_)
          obtain ⟨tr1_4, e9⟩ : ∃ z, z = u9 := ⟨_, rfl⟩
          subst e9
          subst hw9
          have hP : va_P G.1 CL (MW G mh md ((oSwap (nr, nc, pL, pG, pB, pk) (td (kx + 1)) (td (kx + 2))).2.1.1) ((oSwap (nr, nc, pL, pG, pB, pk) (td (kx + 1)) (td (kx + 2))).2.1.2.1) ((oSwap (nr, nc, pL, pG, pB, pk) (td (kx + 1)) (td (kx + 2))).2.1.2.2.1) ((oSwap (nr, nc, pL, pG, pB, pk) (td (kx + 1)) (td (kx + 2))).2.1.2.2.2.1) ((oSwap (nr, nc, pL, pG, pB, pk) (td (kx + 1)) (td (kx + 2))).2.1.2.2.2.2.1) ((oSwap (nr, nc, pL, pG, pB, pk) (td (kx + 1)) (td (kx + 2))).2.1.2.2.2.2.2) bf hi sv ch hs inp ty er (oWy (oSwap (nr, nc, pL, pG, pB, pk) (td (kx + 1)) (td (kx + 2))) wy) (oWd (oSwap (nr, nc, pL, pG, pB, pk) (td (kx + 1)) (td (kx + 2))) wd) (oRf (oSwap (nr, nc, pL, pG, pB, pk) (td (kx + 1)) (td (kx + 2))) rf) lt ln (nI (oSwap (nr, nc, pL, pG, pB, pk) (td (kx + 1)) (td (kx + 2))).1) tr1_4 mv fo sp wr td) _ := hP
          have hD : va_D A (MW G mh md ((oSwap (nr, nc, pL, pG, pB, pk) (td (kx + 1)) (td (kx + 2))).2.1.1) ((oSwap (nr, nc, pL, pG, pB, pk) (td (kx + 1)) (td (kx + 2))).2.1.2.1) ((oSwap (nr, nc, pL, pG, pB, pk) (td (kx + 1)) (td (kx + 2))).2.1.2.2.1) ((oSwap (nr, nc, pL, pG, pB, pk) (td (kx + 1)) (td (kx + 2))).2.1.2.2.2.1) ((oSwap (nr, nc, pL, pG, pB, pk) (td (kx + 1)) (td (kx + 2))).2.1.2.2.2.2.1) ((oSwap (nr, nc, pL, pG, pB, pk) (td (kx + 1)) (td (kx + 2))).2.1.2.2.2.2.2) bf hi sv ch hs inp ty er (oWy (oSwap (nr, nc, pL, pG, pB, pk) (td (kx + 1)) (td (kx + 2))) wy) (oWd (oSwap (nr, nc, pL, pG, pB, pk) (td (kx + 1)) (td (kx + 2))) wd) (oRf (oSwap (nr, nc, pL, pG, pB, pk) (td (kx + 1)) (td (kx + 2))) rf) lt ln (nI (oSwap (nr, nc, pL, pG, pB, pk) (td (kx + 1)) (td (kx + 2))).1) tr1_4 mv fo sp wr td) := hD
          subst hQ
          rw [show ordO (fun _ => 97) (nr, nc, pL, pG, pB, pk) od = oSwap (nr, nc, pL, pG, pB, pk) (td (kx + 1)) (td (kx + 2)) from (by unfold ordO; rw [← hO.1, if_neg (by rw [k24_115]; decide), if_pos k24_115, hO.2.1, hO.b (by rw [← hO.1, k24_115]; decide) (by rw [← hO.1, k24_115]; decide)])]
          exact ret_i hx hb hr hlk (⟨tr1_4, mv⟩) rfl hP hD hS rfl dX5_does_97
        · skip
          by_cases k24_116 : (td kx) = nI 116
          · skip
            refine lv_lookup (off := 88) (tgt := 112) hx hb dX5_does_24 (by decide) (by rw [k24_116]; decide) (by decide) ?_
            refine lv_aload_n hx hb dX5_does_112 rfl (lv_at hl 2 rfl) ?_
            refine lv_iload_n hx hb dX5_does_113 rfl (lv_at hl 1 rfl) ?_
            refine callVi (As := [.int (td (kx + 1))]) (rest := []) (wc := (MW G mh md nr nc pL pG pB pk bf hi sv ch hs inp ty er wy wd rf lt ln th tr mv fo sp wr td)) (wr := ([] : va_W)) ⟨hx, hb, hml, hown, hts⟩ (m_X5_turnsOne l G mh md nr nc pL pG pB pk bf hi sv ch hs inp ty er wy wd rf lt ln th tr mv fo sp wr td (td (kx + 1)) (by first | assumption | omega) (by first | assumption | omega) (by first | assumption | omega)) (cwV 1 hts (lw_V q1867 q1869 qs46 q105 q1870) rfl rfl rfl (by decide +kernel) ⟨Nat.le_of_ble_eq_true rfl, Nat.le_of_ble_eq_true rfl⟩) hK hZ hA hP hD hS [0, 1, 2, 3, 4, 5, 6, 7, 8, 9] [] rfl rfl (by decide) (by decide) (by decide) 0 4 rfl rfl rfl hl.1 (Nat.le_of_ble_eq_true rfl) ⟨Nat.le_of_ble_eq_true rfl, Nat.le_of_ble_eq_true rfl⟩ rfl dX5_does_114 (fun r9 u9 H locs hw9 hP hD hS => ?_)
            obtain ⟨tr1_5, mv1_5⟩ := u9
            subst hw9
            have hP : va_P G.1 CL (MW G mh md ((oTurn (nr, nc, pL, pG, pB, pk) (td (kx + 1))).2.1.1) ((oTurn (nr, nc, pL, pG, pB, pk) (td (kx + 1))).2.1.2.1) ((oTurn (nr, nc, pL, pG, pB, pk) (td (kx + 1))).2.1.2.2.1) ((oTurn (nr, nc, pL, pG, pB, pk) (td (kx + 1))).2.1.2.2.2.1) ((oTurn (nr, nc, pL, pG, pB, pk) (td (kx + 1))).2.1.2.2.2.2.1) ((oTurn (nr, nc, pL, pG, pB, pk) (td (kx + 1))).2.1.2.2.2.2.2) bf hi sv ch hs inp ty er (oWy (oTurn (nr, nc, pL, pG, pB, pk) (td (kx + 1))) wy) (oWd (oTurn (nr, nc, pL, pG, pB, pk) (td (kx + 1))) wd) (oRf (oTurn (nr, nc, pL, pG, pB, pk) (td (kx + 1))) rf) lt ln (nI (oTurn (nr, nc, pL, pG, pB, pk) (td (kx + 1))).1) tr1_5 mv1_5 fo sp wr td) _ := hP
            have hD : va_D A (MW G mh md ((oTurn (nr, nc, pL, pG, pB, pk) (td (kx + 1))).2.1.1) ((oTurn (nr, nc, pL, pG, pB, pk) (td (kx + 1))).2.1.2.1) ((oTurn (nr, nc, pL, pG, pB, pk) (td (kx + 1))).2.1.2.2.1) ((oTurn (nr, nc, pL, pG, pB, pk) (td (kx + 1))).2.1.2.2.2.1) ((oTurn (nr, nc, pL, pG, pB, pk) (td (kx + 1))).2.1.2.2.2.2.1) ((oTurn (nr, nc, pL, pG, pB, pk) (td (kx + 1))).2.1.2.2.2.2.2) bf hi sv ch hs inp ty er (oWy (oTurn (nr, nc, pL, pG, pB, pk) (td (kx + 1))) wy) (oWd (oTurn (nr, nc, pL, pG, pB, pk) (td (kx + 1))) wd) (oRf (oTurn (nr, nc, pL, pG, pB, pk) (td (kx + 1))) rf) lt ln (nI (oTurn (nr, nc, pL, pG, pB, pk) (td (kx + 1))).1) tr1_5 mv1_5 fo sp wr td) := hD
            subst hQ
            rw [show ordO (fun _ => 97) (nr, nc, pL, pG, pB, pk) od = oTurn (nr, nc, pL, pG, pB, pk) (td (kx + 1)) from (by unfold ordO; rw [← hO.1, if_neg (by rw [k24_116]; decide), if_neg (by rw [k24_116]; decide), if_neg (by rw [k24_116]; decide), if_neg (by rw [k24_116]; decide), if_pos k24_116, hO.2.1])]
            exact ret_i hx hb hr hlk (⟨tr1_5, mv1_5⟩) rfl hP hD hS rfl dX5_does_117
          · skip
            by_cases k24_120 : (td kx) = nI 120
            · skip
              refine lv_lookup (off := 94) (tgt := 118) hx hb dX5_does_24 (by decide) (by rw [k24_120]; decide) (by decide) ?_
              refine lv_aload_n hx hb dX5_does_118 rfl (lv_at hl 2 rfl) ?_
              refine lv_iload_n hx hb dX5_does_119 rfl (lv_at hl 1 rfl) ?_
              refine callVi (As := [.int (td (kx + 1))]) (rest := []) (wc := (MW G mh md nr nc pL pG pB pk bf hi sv ch hs inp ty er wy wd rf lt ln th tr mv fo sp wr td)) (wr := ([] : va_W)) ⟨hx, hb, hml, hown, hts⟩ (m_X5_bars l G mh md nr nc pL pG pB pk bf hi sv ch hs inp ty er wy wd rf lt ln th tr mv fo sp wr td (td (kx + 1)) (by first | assumption | omega)) (cwV 1 hts (lw_V q1927 q1929 qs59 q105 q1930) rfl rfl rfl (by decide +kernel) ⟨Nat.le_of_ble_eq_true rfl, Nat.le_of_ble_eq_true rfl⟩) hK hZ hA hP hD hS [0, 1, 2, 3, 4, 5, 6, 7, 8, 9] [] rfl rfl (by decide) (by decide) (by decide) 0 4 rfl rfl rfl hl.1 (Nat.le_of_ble_eq_true rfl) ⟨Nat.le_of_ble_eq_true rfl, Nat.le_of_ble_eq_true rfl⟩ rfl dX5_does_120 (fun r9 u9 H locs hw9 hP hD hS => ?_)
              subst hw9
              have hP : va_P G.1 CL (MW G mh md ((oBar (nr, nc, pL, pG, pB, pk) (td (kx + 1))).2.1.1) ((oBar (nr, nc, pL, pG, pB, pk) (td (kx + 1))).2.1.2.1) ((oBar (nr, nc, pL, pG, pB, pk) (td (kx + 1))).2.1.2.2.1) ((oBar (nr, nc, pL, pG, pB, pk) (td (kx + 1))).2.1.2.2.2.1) ((oBar (nr, nc, pL, pG, pB, pk) (td (kx + 1))).2.1.2.2.2.2.1) ((oBar (nr, nc, pL, pG, pB, pk) (td (kx + 1))).2.1.2.2.2.2.2) bf hi sv ch hs inp ty er (oWy (oBar (nr, nc, pL, pG, pB, pk) (td (kx + 1))) wy) (oWd (oBar (nr, nc, pL, pG, pB, pk) (td (kx + 1))) wd) (oRf (oBar (nr, nc, pL, pG, pB, pk) (td (kx + 1))) rf) lt ln (nI (oBar (nr, nc, pL, pG, pB, pk) (td (kx + 1))).1) tr mv fo sp wr td) _ := hP
              have hD : va_D A (MW G mh md ((oBar (nr, nc, pL, pG, pB, pk) (td (kx + 1))).2.1.1) ((oBar (nr, nc, pL, pG, pB, pk) (td (kx + 1))).2.1.2.1) ((oBar (nr, nc, pL, pG, pB, pk) (td (kx + 1))).2.1.2.2.1) ((oBar (nr, nc, pL, pG, pB, pk) (td (kx + 1))).2.1.2.2.2.1) ((oBar (nr, nc, pL, pG, pB, pk) (td (kx + 1))).2.1.2.2.2.2.1) ((oBar (nr, nc, pL, pG, pB, pk) (td (kx + 1))).2.1.2.2.2.2.2) bf hi sv ch hs inp ty er (oWy (oBar (nr, nc, pL, pG, pB, pk) (td (kx + 1))) wy) (oWd (oBar (nr, nc, pL, pG, pB, pk) (td (kx + 1))) wd) (oRf (oBar (nr, nc, pL, pG, pB, pk) (td (kx + 1))) rf) lt ln (nI (oBar (nr, nc, pL, pG, pB, pk) (td (kx + 1))).1) tr mv fo sp wr td) := hD
              subst hQ
              rw [show ordO (fun _ => 97) (nr, nc, pL, pG, pB, pk) od = oBar (nr, nc, pL, pG, pB, pk) (td (kx + 1)) from (by unfold ordO; rw [← hO.1, if_neg (by rw [k24_120]; decide), if_neg (by rw [k24_120]; decide), if_neg (by rw [k24_120]; decide), if_neg (by rw [k24_120]; decide), if_neg (by rw [k24_120]; decide), if_pos k24_120, hO.2.1])]
              exact ret_i hx hb hr hlk (⟨tr, mv⟩) rfl hP hD hS rfl dX5_does_123
            · skip
              refine lv_lookup (off := 100) (tgt := 124) hx hb dX5_does_24 (by decide) ((lv_osw k24_98 (by decide)).trans <| (lv_osw k24_103 (by decide)).trans <| (lv_osw k24_112 (by decide)).trans <| (lv_osw k24_115 (by decide)).trans <| (lv_osw k24_116 (by decide)).trans <| (lv_osw k24_120 (by decide)).trans <| rfl) (by decide) ?_
              refine lv_aload_n hx hb dX5_does_124 rfl (lv_at hl 2 rfl) ?_
              refine lv_iload_n hx hb dX5_does_125 rfl (lv_at hl 1 rfl) ?_
              refine lv_iload_n hx hb dX5_does_126 rfl (lv_at hl 0 rfl) ?_
              refine callVi (As := [.int (td (kx + 1)), .int (td (kx + 2))]) (rest := []) (wc := (MW G mh md nr nc pL pG pB pk bf hi sv ch hs inp ty er wy wd rf lt ln th tr mv fo sp wr td)) (wr := ([] : va_W)) ⟨hx, hb, hml, hown, hts⟩ (m_X5_scrambles l G mh md nr nc pL pG pB pk bf hi sv ch hs inp ty er wy wd rf lt ln th tr mv fo sp wr td (td (kx + 1)) (td (kx + 2)) (by first | assumption | omega) (by first | assumption | omega) (by first | assumption | omega)) (cwV 2 hts (lw_V q1939 q1941 qs61 q105 q1942) rfl rfl rfl (by decide +kernel) ⟨Nat.le_of_ble_eq_true rfl, Nat.le_of_ble_eq_true rfl⟩) hK hZ hA hP hD hS [0, 1, 2, 3, 4, 5, 6, 7, 8, 9] [] rfl rfl (by decide) (by decide) (by decide) 0 4 rfl rfl rfl hl.1 (Nat.le_of_ble_eq_true rfl) ⟨Nat.le_of_ble_eq_true rfl, Nat.le_of_ble_eq_true rfl⟩ rfl dX5_does_127 (fun r9 u9 H locs hw9 hP hD hS => ?_)
              obtain ⟨tr1_7, mv1_7⟩ := u9
              subst hw9
              have hP : va_P G.1 CL (MW G mh md ((oScr (nr, nc, pL, pG, pB, pk) (td (kx + 1)) (td (kx + 2))).2.1.1) ((oScr (nr, nc, pL, pG, pB, pk) (td (kx + 1)) (td (kx + 2))).2.1.2.1) ((oScr (nr, nc, pL, pG, pB, pk) (td (kx + 1)) (td (kx + 2))).2.1.2.2.1) ((oScr (nr, nc, pL, pG, pB, pk) (td (kx + 1)) (td (kx + 2))).2.1.2.2.2.1) ((oScr (nr, nc, pL, pG, pB, pk) (td (kx + 1)) (td (kx + 2))).2.1.2.2.2.2.1) ((oScr (nr, nc, pL, pG, pB, pk) (td (kx + 1)) (td (kx + 2))).2.1.2.2.2.2.2) bf hi sv ch hs inp ty er (oWy (oScr (nr, nc, pL, pG, pB, pk) (td (kx + 1)) (td (kx + 2))) wy) (oWd (oScr (nr, nc, pL, pG, pB, pk) (td (kx + 1)) (td (kx + 2))) wd) (oRf (oScr (nr, nc, pL, pG, pB, pk) (td (kx + 1)) (td (kx + 2))) rf) lt ln (nI (oScr (nr, nc, pL, pG, pB, pk) (td (kx + 1)) (td (kx + 2))).1) tr1_7 mv1_7 fo sp wr td) _ := hP
              have hD : va_D A (MW G mh md ((oScr (nr, nc, pL, pG, pB, pk) (td (kx + 1)) (td (kx + 2))).2.1.1) ((oScr (nr, nc, pL, pG, pB, pk) (td (kx + 1)) (td (kx + 2))).2.1.2.1) ((oScr (nr, nc, pL, pG, pB, pk) (td (kx + 1)) (td (kx + 2))).2.1.2.2.1) ((oScr (nr, nc, pL, pG, pB, pk) (td (kx + 1)) (td (kx + 2))).2.1.2.2.2.1) ((oScr (nr, nc, pL, pG, pB, pk) (td (kx + 1)) (td (kx + 2))).2.1.2.2.2.2.1) ((oScr (nr, nc, pL, pG, pB, pk) (td (kx + 1)) (td (kx + 2))).2.1.2.2.2.2.2) bf hi sv ch hs inp ty er (oWy (oScr (nr, nc, pL, pG, pB, pk) (td (kx + 1)) (td (kx + 2))) wy) (oWd (oScr (nr, nc, pL, pG, pB, pk) (td (kx + 1)) (td (kx + 2))) wd) (oRf (oScr (nr, nc, pL, pG, pB, pk) (td (kx + 1)) (td (kx + 2))) rf) lt ln (nI (oScr (nr, nc, pL, pG, pB, pk) (td (kx + 1)) (td (kx + 2))).1) tr1_7 mv1_7 fo sp wr td) := hD
              subst hQ
              rw [show ordO (fun _ => 97) (nr, nc, pL, pG, pB, pk) od = oScr (nr, nc, pL, pG, pB, pk) (td (kx + 1)) (td (kx + 2)) from (by unfold ordO; rw [← hO.1, if_neg k24_98, if_neg k24_115, if_neg k24_112, if_neg k24_103, if_neg k24_116, if_neg k24_120, hO.2.1, hO.b (by rw [← hO.1]; exact k24_116) (by rw [← hO.1]; exact k24_120)])]
              exact ret_i hx hb hr hlk (⟨tr1_7, mv1_7⟩) rfl hP hD hS rfl dX5_does_130
set_option maxHeartbeats 4000000 in
set_option maxRecDepth 100000 in
theorem m_X5_run (l : Launch) (G : GG) (mh : Nat) (md : Nat → Nat) (nr : Nat) (nc : Nat) (pL : Nat → Nat) (pG : Nat → Nat) (pB : Nat → Bool) (pk : Nat → Int32) (bf : Nat → Int32) (hi : Nat → Int32) (sv : Nat → Int32) (ch : Nat) (hs : Bool) (inp : Nat → Nat) (ty : Nat) (er : Int32) (wy : Int32) (wd : Int32) (rf : Bool) (lt : Nat → Nat) (ln : Nat) (th : Int32) (tr : Nat → Nat) (mv : Nat → Nat) (fo : Int32) (sp : Nat) (wr : Bool) (td : Nat → Int32) (zl : List ZT) (hd : 2 ≤ nr ∧ nr ≤ 3 ∧ 2 ≤ nc ∧ nc ≤ 3) (hLR : ∀ q, q < nr * nc → 97 ≤ pL q ∧ pL q ≤ 108) (hKR : ∀ q, q < nr * nc → pG q = 46 ∨ (97 ≤ pG q ∧ pG q ≤ 108)) (hT : ∀ j, j < ty → inp j < 65536) (hty : ty ≤ 60) (hH : HistA hi zl ch) (hLb : ∀ i, pL i < 65536) (hKb : ∀ i, pG i < 65536) : MM l G yX5_run cX5_run 5 (some .int) ⟨6, 0, 0, 136⟩ [.ref mh] (MW G mh md nr nc pL pG pB pk bf hi sv ch hs inp ty er wy wd rf lt ln th tr mv fo sp wr td) (Qi_ G (fun (r : Int32) (u : (Nat → Int32) × (Nat) × (Nat → Int32) × (Nat → Nat) × (Nat → Nat) × (Nat) × (Bool) × (Nat → Int32) × (Bool)) => (r = (runO (fun _ => 97) inp ty (nr, nc, pL, pG, pB, pk)).2.2.1) ∧ (HistA u.1 (oH (runO (fun _ => 97) inp ty (nr, nc, pL, pG, pB, pk)) zl (nr, nc, pL, pG, pB, pk)) u.2.1)) (fun (u : (Nat → Int32) × (Nat) × (Nat → Int32) × (Nat → Nat) × (Nat → Nat) × (Nat) × (Bool) × (Nat → Int32) × (Bool)) => (MW G mh md ((runO (fun _ => 97) inp ty (nr, nc, pL, pG, pB, pk)).2.1.1) ((runO (fun _ => 97) inp ty (nr, nc, pL, pG, pB, pk)).2.1.2.1) ((runO (fun _ => 97) inp ty (nr, nc, pL, pG, pB, pk)).2.1.2.2.1) ((runO (fun _ => 97) inp ty (nr, nc, pL, pG, pB, pk)).2.1.2.2.2.1) ((runO (fun _ => 97) inp ty (nr, nc, pL, pG, pB, pk)).2.1.2.2.2.2.1) ((runO (fun _ => 97) inp ty (nr, nc, pL, pG, pB, pk)).2.1.2.2.2.2.2) u.2.2.1 u.1 sv u.2.1 hs inp 0 (if (rdP inp ty 62 0).1 = true then nI (rdP inp ty 62 0).2.1 else -1) (oWy (runO (fun _ => 97) inp ty (nr, nc, pL, pG, pB, pk)) wy) (oWd (runO (fun _ => 97) inp ty (nr, nc, pL, pG, pB, pk)) wd) u.2.2.2.2.2.2.2.2 lt ln (nI (runO (fun _ => 97) inp ty (nr, nc, pL, pG, pB, pk)).1) u.2.2.2.1 u.2.2.2.2.1 fo u.2.2.2.2.2.1 u.2.2.2.2.2.2.1 u.2.2.2.2.2.2.2.1))) := by
  refine MM.of (by decide) (Nat.le_of_ble_eq_true rfl) ?_
  intro p e s m args below meth cd A C hini hA hK hZ hP hD ls hl
  generalize hQ : MQ below ((Qi_ G (fun (r : Int32) (u : (Nat → Int32) × (Nat) × (Nat → Int32) × (Nat → Nat) × (Nat → Nat) × (Nat) × (Bool) × (Nat → Int32) × (Bool)) => (r = (runO (fun _ => 97) inp ty (nr, nc, pL, pG, pB, pk)).2.2.1) ∧ (HistA u.1 (oH (runO (fun _ => 97) inp ty (nr, nc, pL, pG, pB, pk)) zl (nr, nc, pL, pG, pB, pk)) u.2.1)) (fun (u : (Nat → Int32) × (Nat) × (Nat → Int32) × (Nat → Nat) × (Nat → Nat) × (Nat) × (Bool) × (Nat → Int32) × (Bool)) => (MW G mh md ((runO (fun _ => 97) inp ty (nr, nc, pL, pG, pB, pk)).2.1.1) ((runO (fun _ => 97) inp ty (nr, nc, pL, pG, pB, pk)).2.1.2.1) ((runO (fun _ => 97) inp ty (nr, nc, pL, pG, pB, pk)).2.1.2.2.1) ((runO (fun _ => 97) inp ty (nr, nc, pL, pG, pB, pk)).2.1.2.2.2.1) ((runO (fun _ => 97) inp ty (nr, nc, pL, pG, pB, pk)).2.1.2.2.2.2.1) ((runO (fun _ => 97) inp ty (nr, nc, pL, pG, pB, pk)).2.1.2.2.2.2.2) u.2.2.1 u.1 sv u.2.1 hs inp 0 (if (rdP inp ty 62 0).1 = true then nI (rdP inp ty 62 0).2.1 else -1) (oWy (runO (fun _ => 97) inp ty (nr, nc, pL, pG, pB, pk)) wy) (oWd (runO (fun _ => 97) inp ty (nr, nc, pL, pG, pB, pk)) wd) u.2.2.2.2.2.2.2.2 lt ln (nI (runO (fun _ => 97) inp ty (nr, nc, pL, pG, pB, pk)).1) u.2.2.2.1 u.2.2.2.2.1 fo u.2.2.2.2.2.1 u.2.2.2.2.2.2.1 u.2.2.2.2.2.2.2.1))) A) args s (⟨6, 0, 0, 136⟩ : Room).cells (⟨6, 0, 0, 136⟩ : Room).slots A = Q
  obtain ⟨hx, hb, hr, hts, hown, hlk, hml⟩ := C
  have hown : s.vm.findClass RX5 = some m.cls := hown
  have hS : va_S A s.heap s.heap [] := va_S.rf
  have hl : lv_has ls 5 [(0, .ref mh)] := hl
  have hmu := dm_mul hd
  refine lv_aload_n hx hb dX5_run_0 rfl (lv_at hl 0 rfl) ?_
  refine lv_iconst (v := nI 0) hx hb dX5_run_1 (by decide) ?_
  refine va_put (D := G.1) (ci := 4) (v := .int (nI 0)) (ty := .int) (C := RX5) (T := TX5) (N := 21) hx hb hts in_X5 tyX5 tyX5_ok nmX5 hown hK hP hD hS 0 rfl rfl 18 (by decide) (hts _ q1745) (fun _ h9 => h9) rfl (by decide +kernel) rfl rfl (Nat.le_of_ble_eq_true rfl) dX5_run_2 (fun H locs hP hD hS => ?_)
  have hP : va_P G.1 CL (MW G mh md nr nc pL pG pB pk bf hi sv ch hs inp ty er wy wd rf lt ln th tr mv fo 0 wr td) _ := hP
  have hD : va_D A (MW G mh md nr nc pL pG pB pk bf hi sv ch hs inp ty er wy wd rf lt ln th tr mv fo 0 wr td) := hD
  refine lv_aload_n hx hb dX5_run_5 rfl (lv_at hl 0 rfl) ?_
  refine lv_iconst (v := nI 0) hx hb dX5_run_6 (by decide) ?_
  refine va_put (D := G.1) (ci := 4) (v := .int (bI false)) (ty := .boolean) (C := RX5) (T := TX5) (N := 21) hx hb hts in_X5 tyX5 tyX5_ok nmX5 hown hK hP hD hS 0 rfl rfl 19 (by decide) (hts _ q1746) (fun _ h9 => h9) rfl (by decide +kernel) (bI_nar _) rfl (Nat.le_of_ble_eq_true rfl) dX5_run_7 (fun H locs hP hD hS => ?_)
  have hP : va_P G.1 CL (MW G mh md nr nc pL pG pB pk bf hi sv ch hs inp ty er wy wd rf lt ln th tr mv fo 0 false td) _ := hP
  have hD : va_D A (MW G mh md nr nc pL pG pB pk bf hi sv ch hs inp ty er wy wd rf lt ln th tr mv fo 0 false td) := hD
  refine lv_iconst (v := nI 0) hx hb dX5_run_10 (by decide) ?_
  refine lv_istore_n (lv' := [(1, .int (nI 0)), (0, .ref mh)]) hx hb dX5_run_11 rfl hl (by decide) rfl (fun ls hl => ?_)
  refine lv_iconst (v := nI 1) hx hb dX5_run_12 (by decide) ?_
  refine lv_istore_n (lv' := [(2, .int (nI 1)), (1, .int (nI 0)), (0, .ref mh)]) hx hb dX5_run_13 rfl hl (by decide) rfl (fun ls hl => ?_)
  have lp14 : ∀ (f : Nat) (n : Nat) (mo : Bool) (s2 : Nat) (w2 : Bool) (td2 : Nat → Int32) (os : List ORD) (fu : Nat), (if mo = true then 100 - s2 else 0) < f → (n = os.length) → (n ≤ 31) → (mo = true → (w2 = false ∧ rdP inp ty 62 0 = preO os (rdP inp ty fu s2) ∧ fu + n = 62 ∧ 2 * n ≤ s2 ∧ s2 ≤ ty)) → (mo = false → (rdP inp ty 62 0 = ((w2 || decide (s2 < ty)), s2, os) ∧ s2 ≤ ty)) → (w2 = false → ∀ i o, os[i]? = some o → HoldX td2 (3 * i) o) → ∀ (H : Heap) (locs : List Loc) (ls : Array Slot), va_P G.1 CL (MW G mh md nr nc pL pG pB pk bf hi sv ch hs inp ty er wy wd rf lt ln th tr mv fo s2 w2 td2) H → va_D A (MW G mh md nr nc pL pG pB pk bf hi sv ch hs inp ty er wy wd rf lt ln th tr mv fo s2 w2 td2) → va_S A s.heap H locs → lv_has ls 5 [(2, .int (bI mo)), (1, .int (nI n)), (0, .ref mh)] → W p l e (⟨6, 0, 0, 136⟩ : Room) s m args below meth cd H locs 0 0 Q (F0 m 14 ls []) := by
    intro f
    induction f with
    | zero => intro n mo s2 w2 td2 os fu hf; exact absurd hf (Nat.not_lt_zero _)
    | succ f ih14 =>
      intro n mo s2 w2 td2 os fu hf hn hn3 hAA hBB hTd H locs ls hP hD hS hl
      refine lv_iload_n hx hb dX5_run_14 rfl (lv_at hl 0 rfl) ?_
      refine b_if_eq (tgt := 71) hx hb dX5_run_15 (by decide) (fun c15 => ?_) (fun c15 => ?_)
      · skip
        obtain ⟨hB1, hB2⟩ := hBB c15
        refine lv_aload_n hx hb dX5_run_71 rfl (lv_at hl 2 rfl) ?_
        refine lv_aload_n hx hb dX5_run_72 rfl (lv_at hl 2 rfl) ?_
        refine va_get (D := G.1) (ci := 4) (v := .int (bI w2)) (C := RX5) (T := TX5) (N := 21) hx hb hts in_X5 hown hK hP 0 rfl rfl 19 (by decide) (hts _ q1746) (fun _ h9 => h9) rfl dX5_run_73 ?_
        refine b_if_ne (tgt := 90) hx hb dX5_run_76 (by decide) (fun c76 => ?_) (fun c76 => ?_)
        · skip
          have hPw : (rdP inp ty 62 0).1 = true := by rw [hB1]; first | (rw [c76]; rfl) | (show (w2 || decide (s2 < ty)) = true; rw [decide_eq_true c87, Bool.or_true])
          refine lv_iconst (v := nI 1) hx hb dX5_run_90 (by decide) ?_
          refine lv_goto (tgt := 95) hx hb dX5_run_91 (by decide) ?_
          refine va_put (D := G.1) (ci := 4) (v := .int (bI true)) (ty := .boolean) (C := RX5) (T := TX5) (N := 21) hx hb hts in_X5 tyX5 tyX5_ok nmX5 hown hK hP hD hS 0 rfl rfl 19 (by decide) (hts _ q1746) (fun _ h9 => h9) rfl (by decide +kernel) (bI_nar _) rfl (Nat.le_of_ble_eq_true rfl) dX5_run_95 (fun H locs hP hD hS => ?_)
          have hP : va_P G.1 CL (MW G mh md nr nc pL pG pB pk bf hi sv ch hs inp ty er wy wd rf lt ln th tr mv fo s2 true td2) _ := hP
          have hD : va_D A (MW G mh md nr nc pL pG pB pk bf hi sv ch hs inp ty er wy wd rf lt ln th tr mv fo s2 true td2) := hD
          refine lv_aload_n hx hb dX5_run_98 rfl (lv_at hl 2 rfl) ?_
          refine lv_iconst (v := nI 0) hx hb dX5_run_99 (by decide) ?_
          refine va_put (D := G.1) (ci := 4) (v := .int (nI 0)) (ty := .int) (C := RX5) (T := TX5) (N := 21) hx hb hts in_X5 tyX5 tyX5_ok nmX5 hown hK hP hD hS 0 rfl rfl 7 (by decide) (hts _ q1734) (fun _ h9 => h9) rfl (by decide +kernel) rfl rfl (Nat.le_of_ble_eq_true rfl) dX5_run_100 (fun H locs hP hD hS => ?_)
          have hP : va_P G.1 CL (MW G mh md nr nc pL pG pB pk bf hi sv ch hs inp 0 er wy wd rf lt ln th tr mv fo s2 true td2) _ := hP
          have hD : va_D A (MW G mh md nr nc pL pG pB pk bf hi sv ch hs inp 0 er wy wd rf lt ln th tr mv fo s2 true td2) := hD
          refine lv_aload_n hx hb dX5_run_103 rfl (lv_at hl 2 rfl) ?_
          refine lv_aload_n hx hb dX5_run_104 rfl (lv_at hl 2 rfl) ?_
          refine va_get (D := G.1) (ci := 4) (v := .int (bI true)) (C := RX5) (T := TX5) (N := 21) hx hb hts in_X5 hown hK hP 0 rfl rfl 19 (by decide) (hts _ q1746) (fun _ h9 => h9) rfl dX5_run_105 ?_
          refine b_if_eq (tgt := 118) hx hb dX5_run_108 (by decide) (fun c108 => ?_) (fun c108 => ?_)
          · exact absurd c108 (by decide)
          refine lv_aload_n hx hb dX5_run_111 rfl (lv_at hl 2 rfl) ?_
          refine va_get (D := G.1) (ci := 4) (v := .int (nI s2)) (C := RX5) (T := TX5) (N := 21) hx hb hts in_X5 hown hK hP 0 rfl rfl 18 (by decide) (hts _ q1745) (fun _ h9 => h9) rfl dX5_run_112 ?_
          refine lv_goto (tgt := 119) hx hb dX5_run_115 (by decide) ?_
          refine va_put (D := G.1) (ci := 4) (v := .int (nI s2)) (ty := .int) (C := RX5) (T := TX5) (N := 21) hx hb hts in_X5 tyX5 tyX5_ok nmX5 hown hK hP hD hS 0 rfl rfl 8 (by decide) (hts _ q1735) (fun _ h9 => h9) rfl (by decide +kernel) rfl rfl (Nat.le_of_ble_eq_true rfl) dX5_run_119 (fun H locs hP hD hS => ?_)
          have hP : va_P G.1 CL (MW G mh md nr nc pL pG pB pk bf hi sv ch hs inp 0 (nI s2) wy wd rf lt ln th tr mv fo s2 true td2) _ := hP
          have hD : va_D A (MW G mh md nr nc pL pG pB pk bf hi sv ch hs inp 0 (nI s2) wy wd rf lt ln th tr mv fo s2 true td2) := hD
          refine lv_aload_n hx hb dX5_run_122 rfl (lv_at hl 2 rfl) ?_
          refine va_get (D := G.1) (ci := 4) (v := .int (bI true)) (C := RX5) (T := TX5) (N := 21) hx hb hts in_X5 hown hK hP 0 rfl rfl 19 (by decide) (hts _ q1746) (fun _ h9 => h9) rfl dX5_run_123 ?_
          refine b_if_eq (tgt := 135) hx hb dX5_run_126 (by decide) (fun c126 => ?_) (fun c126 => ?_)
          · exact absurd c126 (by decide)
          have hR : (runO (fun _ => 97) inp ty (nr, nc, pL, pG, pB, pk)) = (1, (nr, nc, pL, pG, pB, pk), nI 0, none) := if_pos hPw
          refine lv_aload_n hx hb dX5_run_129 rfl (lv_at hl 2 rfl) ?_
          refine lv_iconst (v := nI 1) hx hb dX5_run_130 (by decide) ?_
          refine callVi (As := [.int (nI 1)]) (rest := []) (wc := (MW G mh md nr nc pL pG pB pk bf hi sv ch hs inp 0 (nI s2) wy wd rf lt ln th tr mv fo s2 true td2)) (wr := ([] : va_W)) ⟨hx, hb, hml, hown, hts⟩ (m_X5_fails l G mh md nr nc pL pG pB pk bf hi sv ch hs inp 0 (nI s2) wy wd rf lt ln th tr mv fo s2 true td2 (nI 1) ) (cwV 1 hts (lw_V q1813 q1815 qs37 q105 q1816) rfl rfl rfl (by decide +kernel) ⟨Nat.le_of_ble_eq_true rfl, Nat.le_of_ble_eq_true rfl⟩) hK hZ hA hP hD hS [0, 1, 2, 3, 4, 5, 6, 7, 8, 9] [] rfl rfl (by decide) (by decide) (by decide) 0 4 rfl rfl rfl hl.1 (Nat.le_of_ble_eq_true rfl) ⟨Nat.le_of_ble_eq_true rfl, Nat.le_of_ble_eq_true rfl⟩ rfl dX5_run_131 (fun r9 u9 H locs hw9 hP hD hS => ?_)
          subst hw9
          have hP : va_P G.1 CL (MW G mh md nr nc pL pG pB pk bf hi sv ch hs inp 0 (nI s2) wy wd false lt ln (nI 1) tr mv fo s2 true td2) _ := hP
          have hD : va_D A (MW G mh md nr nc pL pG pB pk bf hi sv ch hs inp 0 (nI s2) wy wd false lt ln (nI 1) tr mv fo s2 true td2) := hD
          subst hQ
          rw [hR, if_pos hPw, show (rdP inp ty 62 0).2.1 = s2 from by rw [hB1]]
          exact ret_i hx hb hr hlk (⟨hi, ch, bf, tr, mv, s2, true, td2, false⟩) ⟨rfl, hH⟩ hP hD hS rfl dX5_run_134
        · skip
          refine lv_aload_n hx hb dX5_run_79 rfl (lv_at hl 2 rfl) ?_
          refine va_get (D := G.1) (ci := 4) (v := .int (nI s2)) (C := RX5) (T := TX5) (N := 21) hx hb hts in_X5 hown hK hP 0 rfl rfl 18 (by decide) (hts _ q1745) (fun _ h9 => h9) rfl dX5_run_80 ?_
          refine lv_aload_n hx hb dX5_run_83 rfl (lv_at hl 2 rfl) ?_
          refine va_get (D := G.1) (ci := 4) (v := .int (nI ty)) (C := RX5) (T := TX5) (N := 21) hx hb hts in_X5 hown hK hP 0 rfl rfl 7 (by decide) (hts _ q1734) (fun _ h9 => h9) rfl dX5_run_84 ?_
          refine n_cmp_ge (tgt := 94) hx hb dX5_run_87 (by decide) (by omega) (by omega) (fun c87 => ?_) (fun c87 => ?_)
          · skip
            have hPw : (rdP inp ty 62 0).1 = false := by rw [hB1]; show (w2 || decide (s2 < ty)) = false; rw [c76, decide_eq_false (by omega)]; rfl
            refine lv_iconst (v := nI 0) hx hb dX5_run_94 (by decide) ?_
            refine va_put (D := G.1) (ci := 4) (v := .int (bI false)) (ty := .boolean) (C := RX5) (T := TX5) (N := 21) hx hb hts in_X5 tyX5 tyX5_ok nmX5 hown hK hP hD hS 0 rfl rfl 19 (by decide) (hts _ q1746) (fun _ h9 => h9) rfl (by decide +kernel) (bI_nar _) rfl (Nat.le_of_ble_eq_true rfl) dX5_run_95 (fun H locs hP hD hS => ?_)
            have hP : va_P G.1 CL (MW G mh md nr nc pL pG pB pk bf hi sv ch hs inp ty er wy wd rf lt ln th tr mv fo s2 false td2) _ := hP
            have hD : va_D A (MW G mh md nr nc pL pG pB pk bf hi sv ch hs inp ty er wy wd rf lt ln th tr mv fo s2 false td2) := hD
            refine lv_aload_n hx hb dX5_run_98 rfl (lv_at hl 2 rfl) ?_
            refine lv_iconst (v := nI 0) hx hb dX5_run_99 (by decide) ?_
            refine va_put (D := G.1) (ci := 4) (v := .int (nI 0)) (ty := .int) (C := RX5) (T := TX5) (N := 21) hx hb hts in_X5 tyX5 tyX5_ok nmX5 hown hK hP hD hS 0 rfl rfl 7 (by decide) (hts _ q1734) (fun _ h9 => h9) rfl (by decide +kernel) rfl rfl (Nat.le_of_ble_eq_true rfl) dX5_run_100 (fun H locs hP hD hS => ?_)
            have hP : va_P G.1 CL (MW G mh md nr nc pL pG pB pk bf hi sv ch hs inp 0 er wy wd rf lt ln th tr mv fo s2 false td2) _ := hP
            have hD : va_D A (MW G mh md nr nc pL pG pB pk bf hi sv ch hs inp 0 er wy wd rf lt ln th tr mv fo s2 false td2) := hD
            refine lv_aload_n hx hb dX5_run_103 rfl (lv_at hl 2 rfl) ?_
            refine lv_aload_n hx hb dX5_run_104 rfl (lv_at hl 2 rfl) ?_
            refine va_get (D := G.1) (ci := 4) (v := .int (bI false)) (C := RX5) (T := TX5) (N := 21) hx hb hts in_X5 hown hK hP 0 rfl rfl 19 (by decide) (hts _ q1746) (fun _ h9 => h9) rfl dX5_run_105 ?_
            refine b_if_eq (tgt := 118) hx hb dX5_run_108 (by decide) (fun c108 => ?_) (fun c108 => ?_)
            rotate_left
            · exact absurd c108 (by decide)
            refine lv_iconst (v := (-1)) hx hb dX5_run_118 (by decide) ?_
            refine va_put (D := G.1) (ci := 4) (v := .int (-1)) (ty := .int) (C := RX5) (T := TX5) (N := 21) hx hb hts in_X5 tyX5 tyX5_ok nmX5 hown hK hP hD hS 0 rfl rfl 8 (by decide) (hts _ q1735) (fun _ h9 => h9) rfl (by decide +kernel) rfl rfl (Nat.le_of_ble_eq_true rfl) dX5_run_119 (fun H locs hP hD hS => ?_)
            have hP : va_P G.1 CL (MW G mh md nr nc pL pG pB pk bf hi sv ch hs inp 0 (-1) wy wd rf lt ln th tr mv fo s2 false td2) _ := hP
            have hD : va_D A (MW G mh md nr nc pL pG pB pk bf hi sv ch hs inp 0 (-1) wy wd rf lt ln th tr mv fo s2 false td2) := hD
            refine lv_aload_n hx hb dX5_run_122 rfl (lv_at hl 2 rfl) ?_
            refine va_get (D := G.1) (ci := 4) (v := .int (bI false)) (C := RX5) (T := TX5) (N := 21) hx hb hts in_X5 hown hK hP 0 rfl rfl 19 (by decide) (hts _ q1746) (fun _ h9 => h9) rfl dX5_run_123 ?_
            refine b_if_eq (tgt := 135) hx hb dX5_run_126 (by decide) (fun c126 => ?_) (fun c126 => ?_)
            rotate_left
            · exact absurd c126 (by decide)
            have hw29 : w2 = false := c76
            have hos : (rdP inp ty 62 0).2.2 = os := by rw [hB1]
            refine lv_aload_n hx hb dX5_run_135 rfl (lv_at hl 2 rfl) ?_
            refine callVv (As := []) (rest := []) (wc := (MW G mh md nr nc pL pG pB pk bf hi sv ch hs inp 0 (-1) wy wd rf lt ln th tr mv fo s2 false td2)) (wr := ([] : va_W)) ⟨hx, hb, hml, hown, hts⟩ (m_X5_looksBack l G mh md nr nc pL pG pB pk bf hi sv ch hs inp 0 (-1) wy wd rf lt ln th tr mv fo s2 false td2 ) (cwV 0 hts (lw_V q1799 q1801 qs35 q105 q1802) rfl rfl rfl (by decide +kernel) ⟨Nat.le_of_ble_eq_true rfl, Nat.le_of_ble_eq_true rfl⟩) hK hZ hA hP hD hS [0, 1, 2, 3, 4, 5, 6, 7, 8, 9] [] rfl rfl (by decide) (by decide) (by decide) 0 4 rfl rfl rfl hl.1 (Nat.le_of_ble_eq_true rfl) ⟨Nat.le_of_ble_eq_true rfl, Nat.le_of_ble_eq_true rfl⟩ rfl dX5_run_136 (fun u9 H locs hw9 hP hD hS => ?_)
            have hP : va_P G.1 CL (MW G mh md nr nc pL pG pB pk (gZ (nr, nc, pL, pG, pB, pk)) hi sv ch hs inp 0 (-1) wy wd rf lt ln th tr mv fo s2 false td2) _ := hP
            have hD : va_D A (MW G mh md nr nc pL pG pB pk (gZ (nr, nc, pL, pG, pB, pk)) hi sv ch hs inp 0 (-1) wy wd rf lt ln th tr mv fo s2 false td2) := hD
            refine lv_iconst (v := nI 0) hx hb dX5_run_139 (by decide) ?_
            refine lv_istore_n (lv' := [(3, .int (nI 0)), (2, .int (bI mo)), (1, .int (nI n)), (0, .ref mh)]) hx hb dX5_run_140 rfl hl (by decide) rfl (fun ls hl => ?_)
            have lp141 : ∀ (f : Nat) (k : Nat) (nr2 : Nat) (nc2 : Nat) (L2 : Nat → Nat) (K2 : Nat → Nat) (B2 : Nat → Bool) (k2 : Nat → Int32) (tr2 : Nat → Nat) (mv2 : Nat → Nat) (wy2 : Int32) (wd2 : Int32) (rf2 : Bool) (th2 : Int32), n - k < f → (k ≤ n) → (doN (fun _ => 97) (os.drop k) (nr2, nc2, L2, K2, B2, k2) = doN (fun _ => 97) os (nr, nc, pL, pG, pB, pk)) → (vZ (nr2, nc2, L2, K2, B2, k2)) → (wy2 = wy) → (wd2 = wd) → ∀ (H : Heap) (locs : List Loc) (ls : Array Slot), va_P G.1 CL (MW G mh md nr2 nc2 L2 K2 B2 k2 (gZ (nr, nc, pL, pG, pB, pk)) hi sv ch hs inp 0 (-1) wy2 wd2 rf2 lt ln th2 tr2 mv2 fo s2 false td2) H → va_D A (MW G mh md nr2 nc2 L2 K2 B2 k2 (gZ (nr, nc, pL, pG, pB, pk)) hi sv ch hs inp 0 (-1) wy2 wd2 rf2 lt ln th2 tr2 mv2 fo s2 false td2) → va_S A s.heap H locs → lv_has ls 5 [(0, .ref mh), (1, .int (nI n)), (3, .int (nI k))] → W p l e (⟨6, 0, 0, 136⟩ : Room) s m args below meth cd H locs 0 0 Q (F0 m 141 ls []) := by
              intro f
              induction f with
              | zero => intro k nr2 nc2 L2 K2 B2 k2 tr2 mv2 wy2 wd2 rf2 th2 hf; exact absurd hf (Nat.not_lt_zero _)
              | succ f ih141 =>
                intro k nr2 nc2 L2 K2 B2 k2 tr2 mv2 wy2 wd2 rf2 th2 hf hk9 hz hv hwy hwd H locs ls hP hD hS hl
                refine lv_iload_n hx hb dX5_run_141 rfl (lv_at hl 2 rfl) ?_
                refine lv_iload_n hx hb dX5_run_142 rfl (lv_at hl 1 rfl) ?_
                refine n_cmp_ge (tgt := 191) hx hb dX5_run_143 (by decide) (by omega) (by omega) (fun c143 => ?_) (fun c143 => ?_)
                · skip
                  have hR : (runO (fun _ => 97) inp ty (nr, nc, pL, pG, pB, pk)) = (0, (nr2, nc2, L2, K2, B2, k2), nI os.length, none) := by
                    unfold runO; rw [if_neg (by rw [hPw]; decide), hos, ← hz, List.drop_eq_nil_of_le (by omega)]; rfl
                  rw [show wy2 = wy from hwy] at hP hD
                  rw [show wd2 = wd from hwd] at hP hD
                  refine lv_aload_n hx hb dX5_run_191 rfl (lv_at hl 0 rfl) ?_
                  refine lv_aload_n hx hb dX5_run_192 rfl (lv_at hl 0 rfl) ?_
                  refine lv_iload_n hx hb dX5_run_193 rfl (lv_at hl 1 rfl) ?_
                  refine callVi (As := [.int (nI n)]) (rest := [.ref mh]) (wc := (MW G mh md nr2 nc2 L2 K2 B2 k2 (gZ (nr, nc, pL, pG, pB, pk)) hi sv ch hs inp 0 (-1) wy wd rf2 lt ln th2 tr2 mv2 fo s2 false td2)) (wr := ([] : va_W)) ⟨hx, hb, hml, hown, hts⟩ (m_X5_done l G mh md nr2 nc2 L2 K2 B2 k2 (gZ (nr, nc, pL, pG, pB, pk)) hi sv ch hs inp 0 (-1) wy wd rf2 lt ln th2 tr2 mv2 fo s2 false td2 (nI n) ) (cwV 1 hts (lw_V q1821 q1823 qs39 q105 q1824) rfl rfl rfl (by decide +kernel) ⟨Nat.le_of_ble_eq_true rfl, Nat.le_of_ble_eq_true rfl⟩) hK hZ hA hP hD hS [0, 1, 2, 3, 4, 5, 6, 7, 8, 9] [] rfl rfl (by decide) (by decide) (by decide) 0 4 rfl rfl rfl hl.1 (Nat.le_of_ble_eq_true rfl) ⟨Nat.le_of_ble_eq_true rfl, Nat.le_of_ble_eq_true rfl⟩ rfl dX5_run_194 (fun r9 u9 H locs hw9 hP hD hS => ?_)
                  subst hw9
                  have hP : va_P G.1 CL (MW G mh md nr2 nc2 L2 K2 B2 k2 (gZ (nr, nc, pL, pG, pB, pk)) hi sv ch hs inp 0 (-1) wy wd rf2 lt ln (nI 0) tr2 mv2 fo s2 false td2) _ := hP
                  have hD : va_D A (MW G mh md nr2 nc2 L2 K2 B2 k2 (gZ (nr, nc, pL, pG, pB, pk)) hi sv ch hs inp 0 (-1) wy wd rf2 lt ln (nI 0) tr2 mv2 fo s2 false td2) := hD
                  refine callVi (As := [.int (nI n)]) (rest := []) (wc := (MW G mh md nr2 nc2 L2 K2 B2 k2 (gZ (nr, nc, pL, pG, pB, pk)) hi sv ch hs inp 0 (-1) wy wd rf2 lt ln (nI 0) tr2 mv2 fo s2 false td2)) (wr := ([] : va_W)) ⟨hx, hb, hml, hown, hts⟩ (m_X5_kept__0 l G mh md nr2 nc2 L2 K2 B2 k2 hi sv ch hs inp 0 (-1) wy wd rf2 lt ln (nI 0) tr2 mv2 fo s2 false td2 (nI n) (nr, nc, pL, pG, pB, pk) zl nI_0 hH) (cwV 1 hts (lw_V q1825 q1827 qs40 q105 q1828) rfl rfl rfl (by decide +kernel) ⟨Nat.le_of_ble_eq_true rfl, Nat.le_of_ble_eq_true rfl⟩) hK hZ hA hP hD hS [0, 1, 2, 3, 4, 5, 6, 7, 8, 9] [] rfl rfl (by decide) (by decide) (by decide) 0 4 rfl rfl rfl hl.1 (Nat.le_of_ble_eq_true rfl) ⟨Nat.le_of_ble_eq_true rfl, Nat.le_of_ble_eq_true rfl⟩ rfl dX5_run_197 (fun r9 u9 H locs hw9 hP hD hS => ?_)
                  obtain ⟨hi1_4, ch1_4⟩ := u9
                  obtain ⟨hr9, hw197⟩ := hw9
                  subst hr9
                  have hw197 : HistA hi1_4 (pushH zl (nr, nc, pL, pG, pB, pk)) ch1_4 := hw197
                  have hP : va_P G.1 CL (MW G mh md nr2 nc2 L2 K2 B2 k2 (gZ (nr, nc, pL, pG, pB, pk)) hi1_4 sv ch1_4 hs inp 0 (-1) wy wd rf2 lt ln (nI 0) tr2 mv2 fo s2 false td2) _ := hP
                  have hD : va_D A (MW G mh md nr2 nc2 L2 K2 B2 k2 (gZ (nr, nc, pL, pG, pB, pk)) hi1_4 sv ch1_4 hs inp 0 (-1) wy wd rf2 lt ln (nI 0) tr2 mv2 fo s2 false td2) := hD
                  subst hQ
                  rw [hR, if_neg (show ¬ (rdP inp ty 62 0).1 = true by rw [hPw]; decide)]
                  exact ret_i hx hb hr hlk (⟨hi1_4, ch1_4, (gZ (nr, nc, pL, pG, pB, pk)), tr2, mv2, s2, false, td2, rf2⟩) ⟨(by rw [hn]), hw197⟩ hP hD hS rfl dX5_run_200
                · skip
                  refine lv_aload_n hx hb dX5_run_146 rfl (lv_at hl 0 rfl) ?_
                  refine lv_iconst (v := nI 3) hx hb dX5_run_147 (by decide) ?_
                  refine lv_iload_n hx hb dX5_run_148 rfl (lv_at hl 2 rfl) ?_
                  refine n_imul hx hb dX5_run_149 ?_
                  refine callVi (As := [.int (nI (3 * k))]) (rest := []) (wc := (MW G mh md nr2 nc2 L2 K2 B2 k2 (gZ (nr, nc, pL, pG, pB, pk)) hi sv ch hs inp 0 (-1) wy2 wd2 rf2 lt ln th2 tr2 mv2 fo s2 false td2)) (wr := ([] : va_W)) ⟨hx, hb, hml, hown, hts⟩ (m_X5_does l G mh md nr2 nc2 L2 K2 B2 k2 (gZ (nr, nc, pL, pG, pB, pk)) hi sv ch hs inp 0 (-1) wy2 wd2 rf2 lt ln th2 tr2 mv2 fo s2 false td2 (3 * k) (os.getD k (0, 0, 0)) hv.1 (by omega) (hTd hw29 k _ (by rw [List.getElem?_eq_getElem (by omega)]; simp [show k < os.length by omega])) hv.2.1 hv.2.2.1) (cwV 1 hts (lw_V q2133 q2135 qs85 q105 q2136) rfl rfl rfl (by decide +kernel) ⟨Nat.le_of_ble_eq_true rfl, Nat.le_of_ble_eq_true rfl⟩) hK hZ hA hP hD hS [0, 1, 2, 3, 4, 5, 6, 7, 8, 9] [] rfl rfl (by decide) (by decide) (by decide) 0 4 rfl rfl rfl hl.1 (Nat.le_of_ble_eq_true rfl) ⟨Nat.le_of_ble_eq_true rfl, Nat.le_of_ble_eq_true rfl⟩ rfl dX5_run_150 (fun r9 u9 H locs hw9 hP hD hS => ?_)
                  obtain ⟨tr1_5, mv1_5⟩ := u9
                  subst hw9
                  have hP : va_P G.1 CL (MW G mh md ((ordO (fun _ => 97) (nr2, nc2, L2, K2, B2, k2) (os.getD k (0, 0, 0))).2.1.1) ((ordO (fun _ => 97) (nr2, nc2, L2, K2, B2, k2) (os.getD k (0, 0, 0))).2.1.2.1) ((ordO (fun _ => 97) (nr2, nc2, L2, K2, B2, k2) (os.getD k (0, 0, 0))).2.1.2.2.1) ((ordO (fun _ => 97) (nr2, nc2, L2, K2, B2, k2) (os.getD k (0, 0, 0))).2.1.2.2.2.1) ((ordO (fun _ => 97) (nr2, nc2, L2, K2, B2, k2) (os.getD k (0, 0, 0))).2.1.2.2.2.2.1) ((ordO (fun _ => 97) (nr2, nc2, L2, K2, B2, k2) (os.getD k (0, 0, 0))).2.1.2.2.2.2.2) (gZ (nr, nc, pL, pG, pB, pk)) hi sv ch hs inp 0 (-1) (oWy (ordO (fun _ => 97) (nr2, nc2, L2, K2, B2, k2) (os.getD k (0, 0, 0))) wy2) (oWd (ordO (fun _ => 97) (nr2, nc2, L2, K2, B2, k2) (os.getD k (0, 0, 0))) wd2) (oRf (ordO (fun _ => 97) (nr2, nc2, L2, K2, B2, k2) (os.getD k (0, 0, 0))) rf2) lt ln (nI (ordO (fun _ => 97) (nr2, nc2, L2, K2, B2, k2) (os.getD k (0, 0, 0))).1) tr1_5 mv1_5 fo s2 false td2) _ := hP
                  have hD : va_D A (MW G mh md ((ordO (fun _ => 97) (nr2, nc2, L2, K2, B2, k2) (os.getD k (0, 0, 0))).2.1.1) ((ordO (fun _ => 97) (nr2, nc2, L2, K2, B2, k2) (os.getD k (0, 0, 0))).2.1.2.1) ((ordO (fun _ => 97) (nr2, nc2, L2, K2, B2, k2) (os.getD k (0, 0, 0))).2.1.2.2.1) ((ordO (fun _ => 97) (nr2, nc2, L2, K2, B2, k2) (os.getD k (0, 0, 0))).2.1.2.2.2.1) ((ordO (fun _ => 97) (nr2, nc2, L2, K2, B2, k2) (os.getD k (0, 0, 0))).2.1.2.2.2.2.1) ((ordO (fun _ => 97) (nr2, nc2, L2, K2, B2, k2) (os.getD k (0, 0, 0))).2.1.2.2.2.2.2) (gZ (nr, nc, pL, pG, pB, pk)) hi sv ch hs inp 0 (-1) (oWy (ordO (fun _ => 97) (nr2, nc2, L2, K2, B2, k2) (os.getD k (0, 0, 0))) wy2) (oWd (ordO (fun _ => 97) (nr2, nc2, L2, K2, B2, k2) (os.getD k (0, 0, 0))) wd2) (oRf (ordO (fun _ => 97) (nr2, nc2, L2, K2, B2, k2) (os.getD k (0, 0, 0))) rf2) lt ln (nI (ordO (fun _ => 97) (nr2, nc2, L2, K2, B2, k2) (os.getD k (0, 0, 0))).1) tr1_5 mv1_5 fo s2 false td2) := hD
                  refine lv_istore (lv' := [(4, .int ((ordO (fun _ => 97) (nr2, nc2, L2, K2, B2, k2) (os.getD k (0, 0, 0))).2.2.1)), (0, .ref mh), (1, .int (nI n)), (3, .int (nI k))]) hx hb dX5_run_153 hl (by decide) rfl (fun ls hl => ?_)
                  refine lv_aload_n hx hb dX5_run_155 rfl (lv_at hl 1 rfl) ?_
                  refine va_get (D := G.1) (ci := 4) (v := .int (nI (ordO (fun _ => 97) (nr2, nc2, L2, K2, B2, k2) (os.getD k (0, 0, 0))).1)) (C := RX5) (T := TX5) (N := 21) hx hb hts in_X5 hown hK hP 0 rfl rfl 14 (by decide) (hts _ q1741) (fun _ h9 => h9) rfl dX5_run_156 ?_
                  refine lv_if_eq (tgt := 185) hx hb dX5_run_159 (by decide) (fun c159 => ?_) (fun c159 => ?_)
                  · skip
                    refine lv_iinc (v := nI (k + 1)) (lv' := [(3, .int (nI (k + 1))), (4, .int ((ordO (fun _ => 97) (nr2, nc2, L2, K2, B2, k2) (os.getD k (0, 0, 0))).2.2.1)), (0, .ref mh), (1, .int (nI n))]) hx hb dX5_run_185 hl (k := 3) rfl (nI_add _ _) (by decide) rfl (fun ls hl => ?_)
                    refine lv_goto (tgt := 141) hx hb dX5_run_188 (by decide) ?_
                    exact ih141 (k + 1) ((ordO (fun _ => 97) (nr2, nc2, L2, K2, B2, k2) (os.getD k (0, 0, 0))).2.1.1) ((ordO (fun _ => 97) (nr2, nc2, L2, K2, B2, k2) (os.getD k (0, 0, 0))).2.1.2.1) ((ordO (fun _ => 97) (nr2, nc2, L2, K2, B2, k2) (os.getD k (0, 0, 0))).2.1.2.2.1) ((ordO (fun _ => 97) (nr2, nc2, L2, K2, B2, k2) (os.getD k (0, 0, 0))).2.1.2.2.2.1) ((ordO (fun _ => 97) (nr2, nc2, L2, K2, B2, k2) (os.getD k (0, 0, 0))).2.1.2.2.2.2.1) ((ordO (fun _ => 97) (nr2, nc2, L2, K2, B2, k2) (os.getD k (0, 0, 0))).2.1.2.2.2.2.2) tr1_5 mv1_5 (oWy (ordO (fun _ => 97) (nr2, nc2, L2, K2, B2, k2) (os.getD k (0, 0, 0))) wy2) (oWd (ordO (fun _ => 97) (nr2, nc2, L2, K2, B2, k2) (os.getD k (0, 0, 0))) wd2) (oRf (ordO (fun _ => 97) (nr2, nc2, L2, K2, B2, k2) (os.getD k (0, 0, 0))) rf2) (nI (ordO (fun _ => 97) (nr2, nc2, L2, K2, B2, k2) (os.getD k (0, 0, 0))).1) (by omega) (by omega) (by have h0 : (ordO (fun _ => 97) (nr2, nc2, L2, K2, B2, k2) (os.getD k (0, 0, 0))).1 = 0 := (by have := (ok_ord (fun _ => 97) (nr2, nc2, L2, K2, B2, k2) (os.getD k (0, 0, 0))).1; exact (nI_eq (by omega) (by decide)).mp (c159.trans nI_0.symm)); rw [← hz, drop_s (show k < os.length by omega), doN_s h0]) (vZ_ord (fun i => by decide) hv (os.getD k (0, 0, 0))) (by have h0 : (ordO (fun _ => 97) (nr2, nc2, L2, K2, B2, k2) (os.getD k (0, 0, 0))).1 = 0 := (by have := (ok_ord (fun _ => 97) (nr2, nc2, L2, K2, B2, k2) (os.getD k (0, 0, 0))).1; exact (nI_eq (by omega) (by decide)).mp (c159.trans nI_0.symm)); rw [oWy, (ok_ord (fun _ => 97) (nr2, nc2, L2, K2, B2, k2) (os.getD k (0, 0, 0))).2.2 h0]; exact hwy) (by have h0 : (ordO (fun _ => 97) (nr2, nc2, L2, K2, B2, k2) (os.getD k (0, 0, 0))).1 = 0 := (by have := (ok_ord (fun _ => 97) (nr2, nc2, L2, K2, B2, k2) (os.getD k (0, 0, 0))).1; exact (nI_eq (by omega) (by decide)).mp (c159.trans nI_0.symm)); rw [oWd, (ok_ord (fun _ => 97) (nr2, nc2, L2, K2, B2, k2) (os.getD k (0, 0, 0))).2.2 h0]; exact hwd) _ _ _ hP hD hS (lv_sub hl [2, 3, 0] rfl)
                  · skip
                    have hf9 : ¬ (ordO (fun _ => 97) (nr2, nc2, L2, K2, B2, k2) (os.getD k (0, 0, 0))).1 = 0 := fun z => c159 (by rw [z]; exact nI_0)
                    have hR0 : (runO (fun _ => 97) inp ty (nr, nc, pL, pG, pB, pk)) = ((if (ordO (fun _ => 97) (nr2, nc2, L2, K2, B2, k2) (os.getD k (0, 0, 0))).2.2.2.isSome = true then 2 else 1), (nr, nc, pL, pG, pB, pk), nI 0, (ordO (fun _ => 97) (nr2, nc2, L2, K2, B2, k2) (os.getD k (0, 0, 0))).2.2.2) := by
                      unfold runO; rw [if_neg (by rw [hPw]; decide), hos, ← hz, drop_s (by omega), doN_f hf9]
                      by_cases h9 : (ordO (fun _ => 97) (nr2, nc2, L2, K2, B2, k2) (os.getD k (0, 0, 0))).2.2.2.isSome = true
                      · rw [if_pos h9]; rfl
                      · rw [if_neg h9]; rfl
                    rw [show (oWy (ordO (fun _ => 97) (nr2, nc2, L2, K2, B2, k2) (os.getD k (0, 0, 0))) wy2) = (oWy (ordO (fun _ => 97) (nr2, nc2, L2, K2, B2, k2) (os.getD k (0, 0, 0))) wy) from (by rw [hwy])] at hP hD
                    rw [show (oWd (ordO (fun _ => 97) (nr2, nc2, L2, K2, B2, k2) (os.getD k (0, 0, 0))) wd2) = (oWd (ordO (fun _ => 97) (nr2, nc2, L2, K2, B2, k2) (os.getD k (0, 0, 0))) wd) from (by rw [hwd])] at hP hD
                    refine lv_aload_n hx hb dX5_run_162 rfl (lv_at hl 1 rfl) ?_
                    refine lv_aload_n hx hb dX5_run_163 rfl (lv_at hl 1 rfl) ?_
                    refine va_get (D := G.1) (ci := 4) (v := .int (bI (oRf (ordO (fun _ => 97) (nr2, nc2, L2, K2, B2, k2) (os.getD k (0, 0, 0))) rf2))) (C := RX5) (T := TX5) (N := 21) hx hb hts in_X5 hown hK hP 0 rfl rfl 11 (by decide) (hts _ q1738) (fun _ h9 => h9) rfl dX5_run_164 ?_
                    refine b_if_eq (tgt := 174) hx hb dX5_run_167 (by decide) (fun c167 => ?_) (fun c167 => ?_)
                    · skip
                      have hs9 : (ordO (fun _ => 97) (nr2, nc2, L2, K2, B2, k2) (os.getD k (0, 0, 0))).2.2.2.isSome = false := by have h9 := c167; unfold oRf at h9; rwa [if_neg hf9] at h9
                      have hR : (runO (fun _ => 97) inp ty (nr, nc, pL, pG, pB, pk)) = (1, (nr, nc, pL, pG, pB, pk), nI 0, (ordO (fun _ => 97) (nr2, nc2, L2, K2, B2, k2) (os.getD k (0, 0, 0))).2.2.2) := by rw [hR0, if_neg (by rw [hs9]; decide)]
                      refine lv_iconst (v := nI 1) hx hb dX5_run_174 (by decide) ?_
                      refine va_put (D := G.1) (ci := 4) (v := .int (nI 1)) (ty := .int) (C := RX5) (T := TX5) (N := 21) hx hb hts in_X5 tyX5 tyX5_ok nmX5 hown hK hP hD hS 0 rfl rfl 14 (by decide) (hts _ q1741) (fun _ h9 => h9) rfl (by decide +kernel) rfl rfl (Nat.le_of_ble_eq_true rfl) dX5_run_175 (fun H locs hP hD hS => ?_)
                      have hP : va_P G.1 CL (MW G mh md ((ordO (fun _ => 97) (nr2, nc2, L2, K2, B2, k2) (os.getD k (0, 0, 0))).2.1.1) ((ordO (fun _ => 97) (nr2, nc2, L2, K2, B2, k2) (os.getD k (0, 0, 0))).2.1.2.1) ((ordO (fun _ => 97) (nr2, nc2, L2, K2, B2, k2) (os.getD k (0, 0, 0))).2.1.2.2.1) ((ordO (fun _ => 97) (nr2, nc2, L2, K2, B2, k2) (os.getD k (0, 0, 0))).2.1.2.2.2.1) ((ordO (fun _ => 97) (nr2, nc2, L2, K2, B2, k2) (os.getD k (0, 0, 0))).2.1.2.2.2.2.1) ((ordO (fun _ => 97) (nr2, nc2, L2, K2, B2, k2) (os.getD k (0, 0, 0))).2.1.2.2.2.2.2) (gZ (nr, nc, pL, pG, pB, pk)) hi sv ch hs inp 0 (-1) (oWy (ordO (fun _ => 97) (nr2, nc2, L2, K2, B2, k2) (os.getD k (0, 0, 0))) wy) (oWd (ordO (fun _ => 97) (nr2, nc2, L2, K2, B2, k2) (os.getD k (0, 0, 0))) wd) (oRf (ordO (fun _ => 97) (nr2, nc2, L2, K2, B2, k2) (os.getD k (0, 0, 0))) rf2) lt ln (nI 1) tr1_5 mv1_5 fo s2 false td2) _ := hP
                      have hD : va_D A (MW G mh md ((ordO (fun _ => 97) (nr2, nc2, L2, K2, B2, k2) (os.getD k (0, 0, 0))).2.1.1) ((ordO (fun _ => 97) (nr2, nc2, L2, K2, B2, k2) (os.getD k (0, 0, 0))).2.1.2.1) ((ordO (fun _ => 97) (nr2, nc2, L2, K2, B2, k2) (os.getD k (0, 0, 0))).2.1.2.2.1) ((ordO (fun _ => 97) (nr2, nc2, L2, K2, B2, k2) (os.getD k (0, 0, 0))).2.1.2.2.2.1) ((ordO (fun _ => 97) (nr2, nc2, L2, K2, B2, k2) (os.getD k (0, 0, 0))).2.1.2.2.2.2.1) ((ordO (fun _ => 97) (nr2, nc2, L2, K2, B2, k2) (os.getD k (0, 0, 0))).2.1.2.2.2.2.2) (gZ (nr, nc, pL, pG, pB, pk)) hi sv ch hs inp 0 (-1) (oWy (ordO (fun _ => 97) (nr2, nc2, L2, K2, B2, k2) (os.getD k (0, 0, 0))) wy) (oWd (ordO (fun _ => 97) (nr2, nc2, L2, K2, B2, k2) (os.getD k (0, 0, 0))) wd) (oRf (ordO (fun _ => 97) (nr2, nc2, L2, K2, B2, k2) (os.getD k (0, 0, 0))) rf2) lt ln (nI 1) tr1_5 mv1_5 fo s2 false td2) := hD
                      refine lv_aload_n hx hb dX5_run_178 rfl (lv_at hl 1 rfl) ?_
                      refine lv_iload hx hb dX5_run_179 (lv_at hl 0 rfl) ?_
                      refine callVi (As := [.int ((ordO (fun _ => 97) (nr2, nc2, L2, K2, B2, k2) (os.getD k (0, 0, 0))).2.2.1)]) (rest := []) (wc := (MW G mh md ((ordO (fun _ => 97) (nr2, nc2, L2, K2, B2, k2) (os.getD k (0, 0, 0))).2.1.1) ((ordO (fun _ => 97) (nr2, nc2, L2, K2, B2, k2) (os.getD k (0, 0, 0))).2.1.2.1) ((ordO (fun _ => 97) (nr2, nc2, L2, K2, B2, k2) (os.getD k (0, 0, 0))).2.1.2.2.1) ((ordO (fun _ => 97) (nr2, nc2, L2, K2, B2, k2) (os.getD k (0, 0, 0))).2.1.2.2.2.1) ((ordO (fun _ => 97) (nr2, nc2, L2, K2, B2, k2) (os.getD k (0, 0, 0))).2.1.2.2.2.2.1) ((ordO (fun _ => 97) (nr2, nc2, L2, K2, B2, k2) (os.getD k (0, 0, 0))).2.1.2.2.2.2.2) (gZ (nr, nc, pL, pG, pB, pk)) hi sv ch hs inp 0 (-1) (oWy (ordO (fun _ => 97) (nr2, nc2, L2, K2, B2, k2) (os.getD k (0, 0, 0))) wy) (oWd (ordO (fun _ => 97) (nr2, nc2, L2, K2, B2, k2) (os.getD k (0, 0, 0))) wd) (oRf (ordO (fun _ => 97) (nr2, nc2, L2, K2, B2, k2) (os.getD k (0, 0, 0))) rf2) lt ln (nI 1) tr1_5 mv1_5 fo s2 false td2)) (wr := ([] : va_W)) ⟨hx, hb, hml, hown, hts⟩ (m_X5_kept__t l G mh md ((ordO (fun _ => 97) (nr2, nc2, L2, K2, B2, k2) (os.getD k (0, 0, 0))).2.1.1) ((ordO (fun _ => 97) (nr2, nc2, L2, K2, B2, k2) (os.getD k (0, 0, 0))).2.1.2.1) ((ordO (fun _ => 97) (nr2, nc2, L2, K2, B2, k2) (os.getD k (0, 0, 0))).2.1.2.2.1) ((ordO (fun _ => 97) (nr2, nc2, L2, K2, B2, k2) (os.getD k (0, 0, 0))).2.1.2.2.2.1) ((ordO (fun _ => 97) (nr2, nc2, L2, K2, B2, k2) (os.getD k (0, 0, 0))).2.1.2.2.2.2.1) ((ordO (fun _ => 97) (nr2, nc2, L2, K2, B2, k2) (os.getD k (0, 0, 0))).2.1.2.2.2.2.2) hi sv ch hs inp 0 (-1) (oWy (ordO (fun _ => 97) (nr2, nc2, L2, K2, B2, k2) (os.getD k (0, 0, 0))) wy) (oWd (ordO (fun _ => 97) (nr2, nc2, L2, K2, B2, k2) (os.getD k (0, 0, 0))) wd) (oRf (ordO (fun _ => 97) (nr2, nc2, L2, K2, B2, k2) (os.getD k (0, 0, 0))) rf2) lt ln (nI 1) tr1_5 mv1_5 fo s2 false td2 ((ordO (fun _ => 97) (nr2, nc2, L2, K2, B2, k2) (os.getD k (0, 0, 0))).2.2.1) (nr, nc, pL, pG, pB, pk) (by decide)) (cwV 1 hts (lw_V q1825 q1827 qs40 q105 q1828) rfl rfl rfl (by decide +kernel) ⟨Nat.le_of_ble_eq_true rfl, Nat.le_of_ble_eq_true rfl⟩) hK hZ hA hP hD hS [0, 1, 2, 3, 4, 5, 6, 7, 8, 9] [] rfl rfl (by decide) (by decide) (by decide) 0 4 rfl rfl rfl hl.1 (Nat.le_of_ble_eq_true rfl) ⟨Nat.le_of_ble_eq_true rfl, Nat.le_of_ble_eq_true rfl⟩ rfl dX5_run_181 (fun r9 u9 H locs hw9 hP hD hS => ?_)
                      subst hw9
                      have hP : va_P G.1 CL (MW G mh md ((nr, nc, pL, pG, pB, pk).1) ((nr, nc, pL, pG, pB, pk).2.1) ((nr, nc, pL, pG, pB, pk).2.2.1) ((nr, nc, pL, pG, pB, pk).2.2.2.1) ((nr, nc, pL, pG, pB, pk).2.2.2.2.1) ((nr, nc, pL, pG, pB, pk).2.2.2.2.2) (gZ (nr, nc, pL, pG, pB, pk)) hi sv ch hs inp 0 (-1) (oWy (ordO (fun _ => 97) (nr2, nc2, L2, K2, B2, k2) (os.getD k (0, 0, 0))) wy) (oWd (ordO (fun _ => 97) (nr2, nc2, L2, K2, B2, k2) (os.getD k (0, 0, 0))) wd) (oRf (ordO (fun _ => 97) (nr2, nc2, L2, K2, B2, k2) (os.getD k (0, 0, 0))) rf2) lt ln (nI 1) tr1_5 mv1_5 fo s2 false td2) _ := hP
                      have hD : va_D A (MW G mh md ((nr, nc, pL, pG, pB, pk).1) ((nr, nc, pL, pG, pB, pk).2.1) ((nr, nc, pL, pG, pB, pk).2.2.1) ((nr, nc, pL, pG, pB, pk).2.2.2.1) ((nr, nc, pL, pG, pB, pk).2.2.2.2.1) ((nr, nc, pL, pG, pB, pk).2.2.2.2.2) (gZ (nr, nc, pL, pG, pB, pk)) hi sv ch hs inp 0 (-1) (oWy (ordO (fun _ => 97) (nr2, nc2, L2, K2, B2, k2) (os.getD k (0, 0, 0))) wy) (oWd (ordO (fun _ => 97) (nr2, nc2, L2, K2, B2, k2) (os.getD k (0, 0, 0))) wd) (oRf (ordO (fun _ => 97) (nr2, nc2, L2, K2, B2, k2) (os.getD k (0, 0, 0))) rf2) lt ln (nI 1) tr1_5 mv1_5 fo s2 false td2) := hD
                      subst hQ
                      rw [hR, if_neg (show ¬ (rdP inp ty 62 0).1 = true by rw [hPw]; decide)]
                      exact ret_i hx hb hr hlk (⟨hi, ch, (gZ (nr, nc, pL, pG, pB, pk)), tr1_5, mv1_5, s2, false, td2, (oRf (ordO (fun _ => 97) (nr2, nc2, L2, K2, B2, k2) (os.getD k (0, 0, 0))) rf2)⟩) ⟨rfl, hH⟩ hP hD hS rfl dX5_run_184
                    · skip
                      have hs9 : (ordO (fun _ => 97) (nr2, nc2, L2, K2, B2, k2) (os.getD k (0, 0, 0))).2.2.2.isSome = true := by have h9 := c167; unfold oRf at h9; rwa [if_neg hf9] at h9
                      have hR : (runO (fun _ => 97) inp ty (nr, nc, pL, pG, pB, pk)) = (2, (nr, nc, pL, pG, pB, pk), nI 0, (ordO (fun _ => 97) (nr2, nc2, L2, K2, B2, k2) (os.getD k (0, 0, 0))).2.2.2) := by rw [hR0, if_pos hs9]
                      refine lv_iconst (v := nI 2) hx hb dX5_run_170 (by decide) ?_
                      refine lv_goto (tgt := 175) hx hb dX5_run_171 (by decide) ?_
                      refine va_put (D := G.1) (ci := 4) (v := .int (nI 2)) (ty := .int) (C := RX5) (T := TX5) (N := 21) hx hb hts in_X5 tyX5 tyX5_ok nmX5 hown hK hP hD hS 0 rfl rfl 14 (by decide) (hts _ q1741) (fun _ h9 => h9) rfl (by decide +kernel) rfl rfl (Nat.le_of_ble_eq_true rfl) dX5_run_175 (fun H locs hP hD hS => ?_)
                      have hP : va_P G.1 CL (MW G mh md ((ordO (fun _ => 97) (nr2, nc2, L2, K2, B2, k2) (os.getD k (0, 0, 0))).2.1.1) ((ordO (fun _ => 97) (nr2, nc2, L2, K2, B2, k2) (os.getD k (0, 0, 0))).2.1.2.1) ((ordO (fun _ => 97) (nr2, nc2, L2, K2, B2, k2) (os.getD k (0, 0, 0))).2.1.2.2.1) ((ordO (fun _ => 97) (nr2, nc2, L2, K2, B2, k2) (os.getD k (0, 0, 0))).2.1.2.2.2.1) ((ordO (fun _ => 97) (nr2, nc2, L2, K2, B2, k2) (os.getD k (0, 0, 0))).2.1.2.2.2.2.1) ((ordO (fun _ => 97) (nr2, nc2, L2, K2, B2, k2) (os.getD k (0, 0, 0))).2.1.2.2.2.2.2) (gZ (nr, nc, pL, pG, pB, pk)) hi sv ch hs inp 0 (-1) (oWy (ordO (fun _ => 97) (nr2, nc2, L2, K2, B2, k2) (os.getD k (0, 0, 0))) wy) (oWd (ordO (fun _ => 97) (nr2, nc2, L2, K2, B2, k2) (os.getD k (0, 0, 0))) wd) (oRf (ordO (fun _ => 97) (nr2, nc2, L2, K2, B2, k2) (os.getD k (0, 0, 0))) rf2) lt ln (nI 2) tr1_5 mv1_5 fo s2 false td2) _ := hP
                      have hD : va_D A (MW G mh md ((ordO (fun _ => 97) (nr2, nc2, L2, K2, B2, k2) (os.getD k (0, 0, 0))).2.1.1) ((ordO (fun _ => 97) (nr2, nc2, L2, K2, B2, k2) (os.getD k (0, 0, 0))).2.1.2.1) ((ordO (fun _ => 97) (nr2, nc2, L2, K2, B2, k2) (os.getD k (0, 0, 0))).2.1.2.2.1) ((ordO (fun _ => 97) (nr2, nc2, L2, K2, B2, k2) (os.getD k (0, 0, 0))).2.1.2.2.2.1) ((ordO (fun _ => 97) (nr2, nc2, L2, K2, B2, k2) (os.getD k (0, 0, 0))).2.1.2.2.2.2.1) ((ordO (fun _ => 97) (nr2, nc2, L2, K2, B2, k2) (os.getD k (0, 0, 0))).2.1.2.2.2.2.2) (gZ (nr, nc, pL, pG, pB, pk)) hi sv ch hs inp 0 (-1) (oWy (ordO (fun _ => 97) (nr2, nc2, L2, K2, B2, k2) (os.getD k (0, 0, 0))) wy) (oWd (ordO (fun _ => 97) (nr2, nc2, L2, K2, B2, k2) (os.getD k (0, 0, 0))) wd) (oRf (ordO (fun _ => 97) (nr2, nc2, L2, K2, B2, k2) (os.getD k (0, 0, 0))) rf2) lt ln (nI 2) tr1_5 mv1_5 fo s2 false td2) := hD
                      refine lv_aload_n hx hb dX5_run_178 rfl (lv_at hl 1 rfl) ?_
                      refine lv_iload hx hb dX5_run_179 (lv_at hl 0 rfl) ?_
                      refine callVi (As := [.int ((ordO (fun _ => 97) (nr2, nc2, L2, K2, B2, k2) (os.getD k (0, 0, 0))).2.2.1)]) (rest := []) (wc := (MW G mh md ((ordO (fun _ => 97) (nr2, nc2, L2, K2, B2, k2) (os.getD k (0, 0, 0))).2.1.1) ((ordO (fun _ => 97) (nr2, nc2, L2, K2, B2, k2) (os.getD k (0, 0, 0))).2.1.2.1) ((ordO (fun _ => 97) (nr2, nc2, L2, K2, B2, k2) (os.getD k (0, 0, 0))).2.1.2.2.1) ((ordO (fun _ => 97) (nr2, nc2, L2, K2, B2, k2) (os.getD k (0, 0, 0))).2.1.2.2.2.1) ((ordO (fun _ => 97) (nr2, nc2, L2, K2, B2, k2) (os.getD k (0, 0, 0))).2.1.2.2.2.2.1) ((ordO (fun _ => 97) (nr2, nc2, L2, K2, B2, k2) (os.getD k (0, 0, 0))).2.1.2.2.2.2.2) (gZ (nr, nc, pL, pG, pB, pk)) hi sv ch hs inp 0 (-1) (oWy (ordO (fun _ => 97) (nr2, nc2, L2, K2, B2, k2) (os.getD k (0, 0, 0))) wy) (oWd (ordO (fun _ => 97) (nr2, nc2, L2, K2, B2, k2) (os.getD k (0, 0, 0))) wd) (oRf (ordO (fun _ => 97) (nr2, nc2, L2, K2, B2, k2) (os.getD k (0, 0, 0))) rf2) lt ln (nI 2) tr1_5 mv1_5 fo s2 false td2)) (wr := ([] : va_W)) ⟨hx, hb, hml, hown, hts⟩ (m_X5_kept__t l G mh md ((ordO (fun _ => 97) (nr2, nc2, L2, K2, B2, k2) (os.getD k (0, 0, 0))).2.1.1) ((ordO (fun _ => 97) (nr2, nc2, L2, K2, B2, k2) (os.getD k (0, 0, 0))).2.1.2.1) ((ordO (fun _ => 97) (nr2, nc2, L2, K2, B2, k2) (os.getD k (0, 0, 0))).2.1.2.2.1) ((ordO (fun _ => 97) (nr2, nc2, L2, K2, B2, k2) (os.getD k (0, 0, 0))).2.1.2.2.2.1) ((ordO (fun _ => 97) (nr2, nc2, L2, K2, B2, k2) (os.getD k (0, 0, 0))).2.1.2.2.2.2.1) ((ordO (fun _ => 97) (nr2, nc2, L2, K2, B2, k2) (os.getD k (0, 0, 0))).2.1.2.2.2.2.2) hi sv ch hs inp 0 (-1) (oWy (ordO (fun _ => 97) (nr2, nc2, L2, K2, B2, k2) (os.getD k (0, 0, 0))) wy) (oWd (ordO (fun _ => 97) (nr2, nc2, L2, K2, B2, k2) (os.getD k (0, 0, 0))) wd) (oRf (ordO (fun _ => 97) (nr2, nc2, L2, K2, B2, k2) (os.getD k (0, 0, 0))) rf2) lt ln (nI 2) tr1_5 mv1_5 fo s2 false td2 ((ordO (fun _ => 97) (nr2, nc2, L2, K2, B2, k2) (os.getD k (0, 0, 0))).2.2.1) (nr, nc, pL, pG, pB, pk) (by decide)) (cwV 1 hts (lw_V q1825 q1827 qs40 q105 q1828) rfl rfl rfl (by decide +kernel) ⟨Nat.le_of_ble_eq_true rfl, Nat.le_of_ble_eq_true rfl⟩) hK hZ hA hP hD hS [0, 1, 2, 3, 4, 5, 6, 7, 8, 9] [] rfl rfl (by decide) (by decide) (by decide) 0 4 rfl rfl rfl hl.1 (Nat.le_of_ble_eq_true rfl) ⟨Nat.le_of_ble_eq_true rfl, Nat.le_of_ble_eq_true rfl⟩ rfl dX5_run_181 (fun r9 u9 H locs hw9 hP hD hS => ?_)
                      subst hw9
                      have hP : va_P G.1 CL (MW G mh md ((nr, nc, pL, pG, pB, pk).1) ((nr, nc, pL, pG, pB, pk).2.1) ((nr, nc, pL, pG, pB, pk).2.2.1) ((nr, nc, pL, pG, pB, pk).2.2.2.1) ((nr, nc, pL, pG, pB, pk).2.2.2.2.1) ((nr, nc, pL, pG, pB, pk).2.2.2.2.2) (gZ (nr, nc, pL, pG, pB, pk)) hi sv ch hs inp 0 (-1) (oWy (ordO (fun _ => 97) (nr2, nc2, L2, K2, B2, k2) (os.getD k (0, 0, 0))) wy) (oWd (ordO (fun _ => 97) (nr2, nc2, L2, K2, B2, k2) (os.getD k (0, 0, 0))) wd) (oRf (ordO (fun _ => 97) (nr2, nc2, L2, K2, B2, k2) (os.getD k (0, 0, 0))) rf2) lt ln (nI 2) tr1_5 mv1_5 fo s2 false td2) _ := hP
                      have hD : va_D A (MW G mh md ((nr, nc, pL, pG, pB, pk).1) ((nr, nc, pL, pG, pB, pk).2.1) ((nr, nc, pL, pG, pB, pk).2.2.1) ((nr, nc, pL, pG, pB, pk).2.2.2.1) ((nr, nc, pL, pG, pB, pk).2.2.2.2.1) ((nr, nc, pL, pG, pB, pk).2.2.2.2.2) (gZ (nr, nc, pL, pG, pB, pk)) hi sv ch hs inp 0 (-1) (oWy (ordO (fun _ => 97) (nr2, nc2, L2, K2, B2, k2) (os.getD k (0, 0, 0))) wy) (oWd (ordO (fun _ => 97) (nr2, nc2, L2, K2, B2, k2) (os.getD k (0, 0, 0))) wd) (oRf (ordO (fun _ => 97) (nr2, nc2, L2, K2, B2, k2) (os.getD k (0, 0, 0))) rf2) lt ln (nI 2) tr1_5 mv1_5 fo s2 false td2) := hD
                      subst hQ
                      rw [hR, if_neg (show ¬ (rdP inp ty 62 0).1 = true by rw [hPw]; decide)]
                      exact ret_i hx hb hr hlk (⟨hi, ch, (gZ (nr, nc, pL, pG, pB, pk)), tr1_5, mv1_5, s2, false, td2, (oRf (ordO (fun _ => 97) (nr2, nc2, L2, K2, B2, k2) (os.getD k (0, 0, 0))) rf2)⟩) ⟨rfl, hH⟩ hP hD hS rfl dX5_run_184
            exact lp141 _ 0 nr nc pL pG pB pk tr mv wy wd rf th (Nat.lt_succ_self _) (by omega) rfl ⟨hd, hLR, hKR, hLb, hKb⟩ rfl rfl _ _ _ hP hD hS (lv_sub hl [3, 2, 0] rfl)
          · skip
            have hPw : (rdP inp ty 62 0).1 = true := by rw [hB1]; first | (rw [c76]; rfl) | (show (w2 || decide (s2 < ty)) = true; rw [decide_eq_true c87, Bool.or_true])
            refine lv_iconst (v := nI 1) hx hb dX5_run_90 (by decide) ?_
            refine lv_goto (tgt := 95) hx hb dX5_run_91 (by decide) ?_
            refine va_put (D := G.1) (ci := 4) (v := .int (bI true)) (ty := .boolean) (C := RX5) (T := TX5) (N := 21) hx hb hts in_X5 tyX5 tyX5_ok nmX5 hown hK hP hD hS 0 rfl rfl 19 (by decide) (hts _ q1746) (fun _ h9 => h9) rfl (by decide +kernel) (bI_nar _) rfl (Nat.le_of_ble_eq_true rfl) dX5_run_95 (fun H locs hP hD hS => ?_)
            have hP : va_P G.1 CL (MW G mh md nr nc pL pG pB pk bf hi sv ch hs inp ty er wy wd rf lt ln th tr mv fo s2 true td2) _ := hP
            have hD : va_D A (MW G mh md nr nc pL pG pB pk bf hi sv ch hs inp ty er wy wd rf lt ln th tr mv fo s2 true td2) := hD
            refine lv_aload_n hx hb dX5_run_98 rfl (lv_at hl 2 rfl) ?_
            refine lv_iconst (v := nI 0) hx hb dX5_run_99 (by decide) ?_
            refine va_put (D := G.1) (ci := 4) (v := .int (nI 0)) (ty := .int) (C := RX5) (T := TX5) (N := 21) hx hb hts in_X5 tyX5 tyX5_ok nmX5 hown hK hP hD hS 0 rfl rfl 7 (by decide) (hts _ q1734) (fun _ h9 => h9) rfl (by decide +kernel) rfl rfl (Nat.le_of_ble_eq_true rfl) dX5_run_100 (fun H locs hP hD hS => ?_)
            have hP : va_P G.1 CL (MW G mh md nr nc pL pG pB pk bf hi sv ch hs inp 0 er wy wd rf lt ln th tr mv fo s2 true td2) _ := hP
            have hD : va_D A (MW G mh md nr nc pL pG pB pk bf hi sv ch hs inp 0 er wy wd rf lt ln th tr mv fo s2 true td2) := hD
            refine lv_aload_n hx hb dX5_run_103 rfl (lv_at hl 2 rfl) ?_
            refine lv_aload_n hx hb dX5_run_104 rfl (lv_at hl 2 rfl) ?_
            refine va_get (D := G.1) (ci := 4) (v := .int (bI true)) (C := RX5) (T := TX5) (N := 21) hx hb hts in_X5 hown hK hP 0 rfl rfl 19 (by decide) (hts _ q1746) (fun _ h9 => h9) rfl dX5_run_105 ?_
            refine b_if_eq (tgt := 118) hx hb dX5_run_108 (by decide) (fun c108 => ?_) (fun c108 => ?_)
            · exact absurd c108 (by decide)
            refine lv_aload_n hx hb dX5_run_111 rfl (lv_at hl 2 rfl) ?_
            refine va_get (D := G.1) (ci := 4) (v := .int (nI s2)) (C := RX5) (T := TX5) (N := 21) hx hb hts in_X5 hown hK hP 0 rfl rfl 18 (by decide) (hts _ q1745) (fun _ h9 => h9) rfl dX5_run_112 ?_
            refine lv_goto (tgt := 119) hx hb dX5_run_115 (by decide) ?_
            refine va_put (D := G.1) (ci := 4) (v := .int (nI s2)) (ty := .int) (C := RX5) (T := TX5) (N := 21) hx hb hts in_X5 tyX5 tyX5_ok nmX5 hown hK hP hD hS 0 rfl rfl 8 (by decide) (hts _ q1735) (fun _ h9 => h9) rfl (by decide +kernel) rfl rfl (Nat.le_of_ble_eq_true rfl) dX5_run_119 (fun H locs hP hD hS => ?_)
            have hP : va_P G.1 CL (MW G mh md nr nc pL pG pB pk bf hi sv ch hs inp 0 (nI s2) wy wd rf lt ln th tr mv fo s2 true td2) _ := hP
            have hD : va_D A (MW G mh md nr nc pL pG pB pk bf hi sv ch hs inp 0 (nI s2) wy wd rf lt ln th tr mv fo s2 true td2) := hD
            refine lv_aload_n hx hb dX5_run_122 rfl (lv_at hl 2 rfl) ?_
            refine va_get (D := G.1) (ci := 4) (v := .int (bI true)) (C := RX5) (T := TX5) (N := 21) hx hb hts in_X5 hown hK hP 0 rfl rfl 19 (by decide) (hts _ q1746) (fun _ h9 => h9) rfl dX5_run_123 ?_
            refine b_if_eq (tgt := 135) hx hb dX5_run_126 (by decide) (fun c126 => ?_) (fun c126 => ?_)
            · exact absurd c126 (by decide)
            have hR : (runO (fun _ => 97) inp ty (nr, nc, pL, pG, pB, pk)) = (1, (nr, nc, pL, pG, pB, pk), nI 0, none) := if_pos hPw
            refine lv_aload_n hx hb dX5_run_129 rfl (lv_at hl 2 rfl) ?_
            refine lv_iconst (v := nI 1) hx hb dX5_run_130 (by decide) ?_
            refine callVi (As := [.int (nI 1)]) (rest := []) (wc := (MW G mh md nr nc pL pG pB pk bf hi sv ch hs inp 0 (nI s2) wy wd rf lt ln th tr mv fo s2 true td2)) (wr := ([] : va_W)) ⟨hx, hb, hml, hown, hts⟩ (m_X5_fails l G mh md nr nc pL pG pB pk bf hi sv ch hs inp 0 (nI s2) wy wd rf lt ln th tr mv fo s2 true td2 (nI 1) ) (cwV 1 hts (lw_V q1813 q1815 qs37 q105 q1816) rfl rfl rfl (by decide +kernel) ⟨Nat.le_of_ble_eq_true rfl, Nat.le_of_ble_eq_true rfl⟩) hK hZ hA hP hD hS [0, 1, 2, 3, 4, 5, 6, 7, 8, 9] [] rfl rfl (by decide) (by decide) (by decide) 0 4 rfl rfl rfl hl.1 (Nat.le_of_ble_eq_true rfl) ⟨Nat.le_of_ble_eq_true rfl, Nat.le_of_ble_eq_true rfl⟩ rfl dX5_run_131 (fun r9 u9 H locs hw9 hP hD hS => ?_)
            subst hw9
            have hP : va_P G.1 CL (MW G mh md nr nc pL pG pB pk bf hi sv ch hs inp 0 (nI s2) wy wd false lt ln (nI 1) tr mv fo s2 true td2) _ := hP
            have hD : va_D A (MW G mh md nr nc pL pG pB pk bf hi sv ch hs inp 0 (nI s2) wy wd false lt ln (nI 1) tr mv fo s2 true td2) := hD
            subst hQ
            rw [hR, if_pos hPw, show (rdP inp ty 62 0).2.1 = s2 from by rw [hB1]]
            exact ret_i hx hb hr hlk (⟨hi, ch, bf, tr, mv, s2, true, td2, false⟩) ⟨rfl, hH⟩ hP hD hS rfl dX5_run_134
      · skip
        obtain ⟨hA1, hA2, hA3, hA4, hA5⟩ := hAA c15
        have hol := ordP_le (t := inp) (n := ty) hA5
        obtain ⟨fu, rfl⟩ : ∃ f9, fu = f9 + 1 := ⟨fu - 1, by omega⟩
        rw [show w2 = false from (hAA c15).1] at hP hD
        refine lv_aload_n hx hb dX5_run_18 rfl (lv_at hl 2 rfl) ?_
        refine lv_iconst (v := nI 3) hx hb dX5_run_19 (by decide) ?_
        refine lv_iload_n hx hb dX5_run_20 rfl (lv_at hl 1 rfl) ?_
        refine n_imul hx hb dX5_run_21 ?_
        refine callVv (As := [.int (nI (3 * n))]) (rest := []) (wc := (MW G mh md nr nc pL pG pB pk bf hi sv ch hs inp ty er wy wd rf lt ln th tr mv fo s2 false td2)) (wr := ([] : va_W)) ⟨hx, hb, hml, hown, hts⟩ (m_X5_readsOrder l G mh md nr nc pL pG pB pk bf hi sv ch hs inp ty er wy wd rf lt ln th tr mv fo s2 td2 (3 * n) hA5 (by first | assumption | omega) (by first | assumption | omega) (by omega)) (cwV 1 hts (lw_V q2113 q2115 qs80 q105 q2116) rfl rfl rfl (by decide +kernel) ⟨Nat.le_of_ble_eq_true rfl, Nat.le_of_ble_eq_true rfl⟩) hK hZ hA hP hD hS [0, 1, 2, 3, 4, 5, 6, 7, 8, 9] [] rfl rfl (by decide) (by decide) (by decide) 0 4 rfl rfl rfl hl.1 (Nat.le_of_ble_eq_true rfl) ⟨Nat.le_of_ble_eq_true rfl, Nat.le_of_ble_eq_true rfl⟩ rfl dX5_run_22 (fun u9 H locs hw9 hP hD hS => ?_)
        obtain ⟨td1_9, e9⟩ : ∃ z, z = u9 := ⟨_, rfl⟩
        subst e9
        have hw22 : ((ordP inp ty s2).1 = false → HoldX td1_9 (3 * n) (ordP inp ty s2).2.2) ∧ ∀ j, j < (3 * n) → td1_9 j = td2 j := hw9
        have hP : va_P G.1 CL (MW G mh md nr nc pL pG pB pk bf hi sv ch hs inp ty er wy wd rf lt ln th tr mv fo ((ordP inp ty s2).2.1) ((ordP inp ty s2).1) td1_9) _ := hP
        have hD : va_D A (MW G mh md nr nc pL pG pB pk bf hi sv ch hs inp ty er wy wd rf lt ln th tr mv fo ((ordP inp ty s2).2.1) ((ordP inp ty s2).1) td1_9) := hD
        refine lv_iinc (v := nI (n + 1)) (lv' := [(1, .int (nI (n + 1))), (2, .int (bI mo)), (0, .ref mh)]) hx hb dX5_run_25 hl (k := 1) rfl (nI_add _ _) (by decide) rfl (fun ls hl => ?_)
        refine lv_aload_n hx hb dX5_run_28 rfl (lv_at hl 2 rfl) ?_
        refine va_get (D := G.1) (ci := 4) (v := .int (bI ((ordP inp ty s2).1))) (C := RX5) (T := TX5) (N := 21) hx hb hts in_X5 hown hK hP 0 rfl rfl 19 (by decide) (hts _ q1746) (fun _ h9 => h9) rfl dX5_run_29 ?_
        refine b_if_ne (tgt := 48) hx hb dX5_run_32 (by decide) (fun c32 => ?_) (fun c32 => ?_)
        · skip
          refine lv_iconst (v := nI 0) hx hb dX5_run_48 (by decide) ?_
          refine lv_istore_n (lv' := [(2, .int (nI 0)), (1, .int (nI (n + 1))), (0, .ref mh)]) hx hb dX5_run_49 rfl hl (by decide) rfl (fun ls hl => ?_)
          refine lv_aload_n hx hb dX5_run_50 rfl (lv_at hl 2 rfl) ?_
          refine lv_dup hx hb dX5_run_51 rfl ?_
          refine va_get (D := G.1) (ci := 4) (v := .int (nI ((ordP inp ty s2).2.1))) (C := RX5) (T := TX5) (N := 21) hx hb hts in_X5 hown hK hP 0 rfl rfl 18 (by decide) (hts _ q1745) (fun _ h9 => h9) rfl dX5_run_52 ?_
          refine lv_iload_n hx hb dX5_run_55 rfl (lv_at hl 0 rfl) ?_
          refine n_if_eq (tgt := 63) hx hb dX5_run_56 (by decide) (by decide) (fun c56 => ?_) (fun c56 => ?_)
          rotate_left
          · exact absurd c56 (by decide)
          refine lv_iconst (v := nI 0) hx hb dX5_run_63 (by decide) ?_
          refine n_iadd hx hb dX5_run_64 ?_
          refine va_put (D := G.1) (ci := 4) (v := .int (nI (((ordP inp ty s2).2.1) + 0))) (ty := .int) (C := RX5) (T := TX5) (N := 21) hx hb hts in_X5 tyX5 tyX5_ok nmX5 hown hK hP hD hS 0 rfl rfl 18 (by decide) (hts _ q1745) (fun _ h9 => h9) rfl (by decide +kernel) rfl rfl (Nat.le_of_ble_eq_true rfl) dX5_run_65 (fun H locs hP hD hS => ?_)
          have hP : va_P G.1 CL (MW G mh md nr nc pL pG pB pk bf hi sv ch hs inp ty er wy wd rf lt ln th tr mv fo (((ordP inp ty s2).2.1) + 0) ((ordP inp ty s2).1) td1_9) _ := hP
          have hD : va_D A (MW G mh md nr nc pL pG pB pk bf hi sv ch hs inp ty er wy wd rf lt ln th tr mv fo (((ordP inp ty s2).2.1) + 0) ((ordP inp ty s2).1) td1_9) := hD
          refine lv_goto (tgt := 14) hx hb dX5_run_68 (by decide) ?_
          exact ih14 (n + 1) false (((ordP inp ty s2).2.1) + 0) ((ordP inp ty s2).1) td1_9 (os ++ [(ordP inp ty s2).2.2]) fu (by rw [if_neg (by decide)]; rw [if_pos c15] at hf; omega) (by rw [hn]; simp) (by omega) (fun h => absurd h (by decide)) (fun _ => ⟨by rw [hA2]; first | (rw [rdP_w c32, c32]; rfl) | (rw [rdP_e c32 c41, c32]; rfl), hol.1⟩) (fun hw => HX_app (hTd hA1) (by rw [← hn]; exact hw22.2) (by rw [← hn]; exact hw22.1 hw)) _ _ _ hP hD hS (lv_sub hl [0, 1, 2] rfl)
        · skip
          refine lv_aload_n hx hb dX5_run_35 rfl (lv_at hl 2 rfl) ?_
          refine callVi (As := []) (rest := []) (wc := (MW G mh md nr nc pL pG pB pk bf hi sv ch hs inp ty er wy wd rf lt ln th tr mv fo ((ordP inp ty s2).2.1) ((ordP inp ty s2).1) td1_9)) (wr := ([] : va_W)) ⟨hx, hb, hml, hown, hts⟩ (m_X5_here l G mh md nr nc pL pG pB pk bf hi sv ch hs inp ty er wy wd rf lt ln th tr mv fo ((ordP inp ty s2).2.1) ((ordP inp ty s2).1) td1_9 hol.1 (by first | assumption | omega)) (cwV 0 hts (lw_V q2117 q2119 qs81 q105 q2120) rfl rfl rfl (by decide +kernel) ⟨Nat.le_of_ble_eq_true rfl, Nat.le_of_ble_eq_true rfl⟩) hK hZ hA hP hD hS [0, 1, 2, 3, 4, 5, 6, 7, 8, 9] [] rfl rfl (by decide) (by decide) (by decide) 0 4 rfl rfl rfl hl.1 (Nat.le_of_ble_eq_true rfl) ⟨Nat.le_of_ble_eq_true rfl, Nat.le_of_ble_eq_true rfl⟩ rfl dX5_run_36 (fun r9 u9 H locs hw9 hP hD hS => ?_)
          subst hw9
          have hP : va_P G.1 CL (MW G mh md nr nc pL pG pB pk bf hi sv ch hs inp ty er wy wd rf lt ln th tr mv fo ((ordP inp ty s2).2.1) ((ordP inp ty s2).1) td1_9) _ := hP
          have hD : va_D A (MW G mh md nr nc pL pG pB pk bf hi sv ch hs inp ty er wy wd rf lt ln th tr mv fo ((ordP inp ty s2).2.1) ((ordP inp ty s2).1) td1_9) := hD
          refine lv_bipush (v := nI 59) hx hb dX5_run_39 (by decide) ?_
          refine lv_icmp_ne (tgt := 48) hx hb dX5_run_41 (by decide) (fun c41 => ?_) (fun c41 => ?_)
          · skip
            refine lv_iconst (v := nI 0) hx hb dX5_run_48 (by decide) ?_
            refine lv_istore_n (lv' := [(2, .int (nI 0)), (1, .int (nI (n + 1))), (0, .ref mh)]) hx hb dX5_run_49 rfl hl (by decide) rfl (fun ls hl => ?_)
            refine lv_aload_n hx hb dX5_run_50 rfl (lv_at hl 2 rfl) ?_
            refine lv_dup hx hb dX5_run_51 rfl ?_
            refine va_get (D := G.1) (ci := 4) (v := .int (nI ((ordP inp ty s2).2.1))) (C := RX5) (T := TX5) (N := 21) hx hb hts in_X5 hown hK hP 0 rfl rfl 18 (by decide) (hts _ q1745) (fun _ h9 => h9) rfl dX5_run_52 ?_
            refine lv_iload_n hx hb dX5_run_55 rfl (lv_at hl 0 rfl) ?_
            refine n_if_eq (tgt := 63) hx hb dX5_run_56 (by decide) (by decide) (fun c56 => ?_) (fun c56 => ?_)
            rotate_left
            · exact absurd c56 (by decide)
            refine lv_iconst (v := nI 0) hx hb dX5_run_63 (by decide) ?_
            refine n_iadd hx hb dX5_run_64 ?_
            refine va_put (D := G.1) (ci := 4) (v := .int (nI (((ordP inp ty s2).2.1) + 0))) (ty := .int) (C := RX5) (T := TX5) (N := 21) hx hb hts in_X5 tyX5 tyX5_ok nmX5 hown hK hP hD hS 0 rfl rfl 18 (by decide) (hts _ q1745) (fun _ h9 => h9) rfl (by decide +kernel) rfl rfl (Nat.le_of_ble_eq_true rfl) dX5_run_65 (fun H locs hP hD hS => ?_)
            have hP : va_P G.1 CL (MW G mh md nr nc pL pG pB pk bf hi sv ch hs inp ty er wy wd rf lt ln th tr mv fo (((ordP inp ty s2).2.1) + 0) ((ordP inp ty s2).1) td1_9) _ := hP
            have hD : va_D A (MW G mh md nr nc pL pG pB pk bf hi sv ch hs inp ty er wy wd rf lt ln th tr mv fo (((ordP inp ty s2).2.1) + 0) ((ordP inp ty s2).1) td1_9) := hD
            refine lv_goto (tgt := 14) hx hb dX5_run_68 (by decide) ?_
            exact ih14 (n + 1) false (((ordP inp ty s2).2.1) + 0) ((ordP inp ty s2).1) td1_9 (os ++ [(ordP inp ty s2).2.2]) fu (by rw [if_neg (by decide)]; rw [if_pos c15] at hf; omega) (by rw [hn]; simp) (by omega) (fun h => absurd h (by decide)) (fun _ => ⟨by rw [hA2]; first | (rw [rdP_w c32, c32]; rfl) | (rw [rdP_e c32 c41, c32]; rfl), hol.1⟩) (fun hw => HX_app (hTd hA1) (by rw [← hn]; exact hw22.2) (by rw [← hn]; exact hw22.1 hw)) _ _ _ hP hD hS (lv_sub hl [0, 1, 2] rfl)
          · skip
            refine lv_iconst (v := nI 1) hx hb dX5_run_44 (by decide) ?_
            refine lv_goto (tgt := 49) hx hb dX5_run_45 (by decide) ?_
            refine lv_istore_n (lv' := [(2, .int (nI 1)), (1, .int (nI (n + 1))), (0, .ref mh)]) hx hb dX5_run_49 rfl hl (by decide) rfl (fun ls hl => ?_)
            refine lv_aload_n hx hb dX5_run_50 rfl (lv_at hl 2 rfl) ?_
            refine lv_dup hx hb dX5_run_51 rfl ?_
            refine va_get (D := G.1) (ci := 4) (v := .int (nI ((ordP inp ty s2).2.1))) (C := RX5) (T := TX5) (N := 21) hx hb hts in_X5 hown hK hP 0 rfl rfl 18 (by decide) (hts _ q1745) (fun _ h9 => h9) rfl dX5_run_52 ?_
            refine lv_iload_n hx hb dX5_run_55 rfl (lv_at hl 0 rfl) ?_
            refine n_if_eq (tgt := 63) hx hb dX5_run_56 (by decide) (by decide) (fun c56 => ?_) (fun c56 => ?_)
            · exact absurd c56 (by decide)
            refine lv_iconst (v := nI 1) hx hb dX5_run_59 (by decide) ?_
            refine lv_goto (tgt := 64) hx hb dX5_run_60 (by decide) ?_
            refine n_iadd hx hb dX5_run_64 ?_
            refine va_put (D := G.1) (ci := 4) (v := .int (nI (((ordP inp ty s2).2.1) + 1))) (ty := .int) (C := RX5) (T := TX5) (N := 21) hx hb hts in_X5 tyX5 tyX5_ok nmX5 hown hK hP hD hS 0 rfl rfl 18 (by decide) (hts _ q1745) (fun _ h9 => h9) rfl (by decide +kernel) rfl rfl (Nat.le_of_ble_eq_true rfl) dX5_run_65 (fun H locs hP hD hS => ?_)
            have hP : va_P G.1 CL (MW G mh md nr nc pL pG pB pk bf hi sv ch hs inp ty er wy wd rf lt ln th tr mv fo (((ordP inp ty s2).2.1) + 1) ((ordP inp ty s2).1) td1_9) _ := hP
            have hD : va_D A (MW G mh md nr nc pL pG pB pk bf hi sv ch hs inp ty er wy wd rf lt ln th tr mv fo (((ordP inp ty s2).2.1) + 1) ((ordP inp ty s2).1) td1_9) := hD
            refine lv_goto (tgt := 14) hx hb dX5_run_68 (by decide) ?_
            exact ih14 (n + 1) true (((ordP inp ty s2).2.1) + 1) ((ordP inp ty s2).1) td1_9 (os ++ [(ordP inp ty s2).2.2]) fu (by have h9 := (hrI_ne1 (by decide) c41).1; have h8 := hol.2 c32; rw [if_pos rfl]; rw [if_pos c15] at hf; omega) (by rw [hn]; simp) (by omega) (fun _ => ⟨c32, by rw [hA2, rdP_m c32 c41, preO_app], by omega, by have := hol.2 c32; omega, (hrI_ne1 (by decide) c41).1⟩) (fun h => absurd h (by decide)) (fun hw => HX_app (hTd hA1) (by rw [← hn]; exact hw22.2) (by rw [← hn]; exact hw22.1 hw)) _ _ _ hP hD hS (lv_sub hl [0, 1, 2] rfl)
  exact lp14 _ 0 true 0 false td ([]) 62 (Nat.lt_succ_self _) rfl (by omega) (fun _ => ⟨rfl, rfl, rfl, Nat.zero_le _, Nat.zero_le _⟩) (fun h => absurd h (by decide)) (fun _ i o h => by simp at h) _ _ _ hP hD hS (lv_sub hl [0, 1, 2] rfl)
