theorem hrI_cg {t u : Nat → Nat} {n : Nat} (h : ∀ j, j < n → t j = u j) : hrI t n = hrI u n := by
  funext i; unfold hrI; split
  · rename_i hi; rw [h i hi]
  · rfl
theorem isDg_cg {t u : Nat → Nat} {n : Nat} (h : ∀ j, j < n → t j = u j) : isDg t n = isDg u n := by
  funext i; unfold isDg; by_cases hi : i < n
  · rw [h i hi]
  · rw [decide_eq_false (fun z => hi z.1), decide_eq_false (fun z => hi z.1)]
theorem dgs_cg {t u : Nat → Nat} {n : Nat} (h : ∀ j, j < n → t j = u j) : ∀ m i v, dgs t n m i v = dgs u n m i v
  | 0, i, v => rfl
  | m + 1, i, v => by
    rw [dgs, dgs, isDg_cg h]
    by_cases hd : isDg u n i = true
    · rw [if_pos hd, if_pos hd, h i (of_decide_eq_true hd).1, dgs_cg h m]
    · rw [if_neg hd, if_neg hd]
theorem fgS_cg {t u : Nat → Nat} {n : Nat} (h : ∀ j, j < n → t j = u j) : fgS t n = fgS u n := by
  funext m w i; unfold fgS; rw [isDg_cg h, dgs_cg h]
theorem ndW_cg {t u : Nat → Nat} {n : Nat} (h : ∀ j, j < n → t j = u j) : ndW t n = ndW u n := by
  funext c w i; unfold ndW; rw [hrI_cg h]
theorem ndS_cg {t u : Nat → Nat} {n : Nat} (h : ∀ j, j < n → t j = u j) : ndS t n = ndS u n := by
  funext c w i; unfold ndS; rw [ndW_cg h]
theorem sgW_cg {t u : Nat → Nat} {n : Nat} (h : ∀ j, j < n → t j = u j) : sgW t n = sgW u n := by
  funext c w i; unfold sgW; rw [hrI_cg h]
theorem sgS_cg {t u : Nat → Nat} {n : Nat} (h : ∀ j, j < n → t j = u j) : sgS t n = sgS u n := by
  funext c w i; unfold sgS; rw [sgW_cg h]
theorem ordP_cg {t u : Nat → Nat} {n : Nat} (h : ∀ j, j < n → t j = u j) : ordP t n = ordP u n := by
  funext i; unfold ordP; rw [hrI_cg h, fgS_cg h, sgW_cg h, sgS_cg h, ndW_cg h, ndS_cg h]
theorem rdP_cg {t u : Nat → Nat} {n : Nat} (h : ∀ j, j < n → t j = u j) : ∀ f i, rdP t n f i = rdP u n f i
  | 0, i => rfl
  | f + 1, i => by rw [rdP, rdP, hrI_cg h, ordP_cg h, rdP_cg h f]
theorem runO_cg {t u : Nat → Nat} {n : Nat} (h : ∀ j, j < n → t j = u j) (J : Nat → Nat) (z : ZT) : runO J t n z = runO J u n z := by
  unfold runO; rw [rdP_cg h]
theorem ok_run (J t : Nat → Nat) (n : Nat) (z : ZT) : okO z (runO J t n z) := by
  unfold runO
  split
  · exact okO_f (by decide) (by decide)
  · split
    · exact okO_t
    · rename_i h1
      refine okO_f ?_ h1
      have key : ∀ (os : List ORD) (z : ZT), (doN J os z).1 ≤ 3 := by
        intro os
        induction os with
        | nil => intro z; exact Nat.zero_le 3
        | cons o os ih =>
          intro z
          by_cases h0 : (ordO J z o).1 = 0
          · rw [doN_s h0]; exact ih _
          · rw [doN_f h0]
            by_cases h9 : (ordO J z o).2.2.2.isSome = true
            · exact Nat.le_trans (Nat.le_of_eq (if_pos h9)) (by decide)
            · exact Nat.le_trans (Nat.le_of_eq (if_neg h9)) (by decide)
      exact key _ _
theorem up_app {xs : List Nat} {t : Nat → Nat} {v : Nat} (h : ∀ j, j < xs.length → t j = xs.getD j 0) : ∀ j, j < (xs ++ [v]).length → va_up t xs.length v j = (xs ++ [v]).getD j 0 := by
  intro j hj
  rw [List.length_append] at hj
  by_cases e : j = xs.length
  · subst e; rw [va_up_self]; simp
  · have hj' : j < xs.length := by simp at hj; omega
    rw [va_up_ne _ _ e, h j hj']
    simp [List.getElem?_append_left hj']
theorem qD_th {P : Prop} [Decidable P] {x : UInt64} {a : AS} : nI (qD (decide (¬ P)) x a).1 = if P then nI 1 else nI 0 := by
  by_cases h : P
  · rw [qD_f (decide_eq_false (fun z => z h)), if_pos h]
  · rw [qD_t (decide_eq_true h), if_neg h]
theorem qD_v {P : Prop} [Decidable P] {x : UInt64} {a : AS} : (qD (decide (¬ P)) x a).2.1 = if P then FP.dconst0 else x := by
  by_cases h : P
  · rw [qD_f (decide_eq_false (fun z => z h)), if_pos h]
  · rw [qD_t (decide_eq_true h), if_neg h]
theorem qD_s {c : Bool} {x : UInt64} {a : AS} : (qD c x a).2.2 = a := by unfold qD; split <;> rfl
set_option maxHeartbeats 4000000 in
set_option maxRecDepth 100000 in
theorem m_X5_append__A (l : Launch) (G : GG) (mc : MAd) (b : AS) (k : MJ) (th : Int32) (cv : Nat) (hv : vA b) (hok : okM b k) (hcv : cv < 65536) : MM l G yX5_append cX5_append 2 (some .int) ⟨1, 0, 0, 21⟩ [.ref mc.1, .int (nI cv)] (MAW G mc b k th) (Qi_ G (fun (r : Int32) (u : (MJ)) => (r = (qI (decide (b.2.2.2.2.1.length < 60)) (nI (b.2.2.2.2.1.length + 1)) b (buA b (b.2.2.2.2.1 ++ [cv]))).2.1) ∧ (okM (qI (decide (b.2.2.2.2.1.length < 60)) (nI (b.2.2.2.2.1.length + 1)) b (buA b (b.2.2.2.2.1 ++ [cv]))).2.2 u)) (fun (u : (MJ)) => (MAW G mc ((qI (decide (b.2.2.2.2.1.length < 60)) (nI (b.2.2.2.2.1.length + 1)) b (buA b (b.2.2.2.2.1 ++ [cv]))).2.2) u (nI (qI (decide (b.2.2.2.2.1.length < 60)) (nI (b.2.2.2.2.1.length + 1)) b (buA b (b.2.2.2.2.1 ++ [cv]))).1)))) := by
  obtain ⟨⟨hd, hLR, hKR, hL, hG⟩, hvs, hvh, hvb, hvl, ⟨rn, hrn, hrf⟩⟩ := id hv
  obtain ⟨hH, ⟨hty, hinp⟩, hHT⟩ := id hok
  have hmu := dm_mul hd
  by_cases hc9 : k.2.2.2.2.1 = 60
  ·
    rw [show (qI (decide (b.2.2.2.2.1.length < 60)) (nI (b.2.2.2.2.1.length + 1)) b (buA b (b.2.2.2.2.1 ++ [cv]))) = (1, nI 0, b) from qI_f (decide_eq_false (by omega))]
    refine (m_X5_append l G mc.1 mc.2 b.1.1 b.1.2.1 b.1.2.2.1 b.1.2.2.2.1 b.1.2.2.2.2.1 b.1.2.2.2.2.2 k.1 k.2.1 (gZ b.2.1) k.2.2.1 b.2.2.1 k.2.2.2.1 k.2.2.2.2.1 b.2.2.2.2.2.2.1 b.2.2.2.2.2.2.2.1 b.2.2.2.2.2.2.2.2 k.2.2.2.2.2.1 k.2.2.2.2.2.2.1 k.2.2.2.2.2.2.2.1 th k.2.2.2.2.2.2.2.2.1 k.2.2.2.2.2.2.2.2.2.1 k.2.2.2.2.2.2.2.2.2.2.1 k.2.2.2.2.2.2.2.2.2.2.2.1 k.2.2.2.2.2.2.2.2.2.2.2.2.1 k.2.2.2.2.2.2.2.2.2.2.2.2.2 cv (by first | assumption | omega) (by omega)).mono (fun A a s o t h => ?_)
    obtain ⟨⟨r, rf1, e, hp, hB⟩, hF⟩ := h
    simp only [if_pos hc9] at hp hB
    refine ⟨⟨r, (k.1, k.2.1, k.2.2.1, k.2.2.2.1, k.2.2.2.2.1, rf1, k.2.2.2.2.2.2.1, k.2.2.2.2.2.2.2.1, k.2.2.2.2.2.2.2.2.1, k.2.2.2.2.2.2.2.2.2.1, k.2.2.2.2.2.2.2.2.2.2.1, k.2.2.2.2.2.2.2.2.2.2.2.1, k.2.2.2.2.2.2.2.2.2.2.2.2.1, k.2.2.2.2.2.2.2.2.2.2.2.2.2), e, ⟨?_, ?_⟩, ?_⟩, hF⟩
    · exact hp
    · exact hok
    · exact hB
  ·
    rw [show (qI (decide (b.2.2.2.2.1.length < 60)) (nI (b.2.2.2.2.1.length + 1)) b (buA b (b.2.2.2.2.1 ++ [cv]))) = (0, nI (b.2.2.2.2.1.length + 1), (buA b (b.2.2.2.2.1 ++ [cv]))) from qI_t (decide_eq_true (by omega))]
    refine (m_X5_append l G mc.1 mc.2 b.1.1 b.1.2.1 b.1.2.2.1 b.1.2.2.2.1 b.1.2.2.2.2.1 b.1.2.2.2.2.2 k.1 k.2.1 (gZ b.2.1) k.2.2.1 b.2.2.1 k.2.2.2.1 k.2.2.2.2.1 b.2.2.2.2.2.2.1 b.2.2.2.2.2.2.2.1 b.2.2.2.2.2.2.2.2 k.2.2.2.2.2.1 k.2.2.2.2.2.2.1 k.2.2.2.2.2.2.2.1 th k.2.2.2.2.2.2.2.2.1 k.2.2.2.2.2.2.2.2.2.1 k.2.2.2.2.2.2.2.2.2.2.1 k.2.2.2.2.2.2.2.2.2.2.2.1 k.2.2.2.2.2.2.2.2.2.2.2.2.1 k.2.2.2.2.2.2.2.2.2.2.2.2.2 cv (by first | assumption | omega) (by omega)).mono (fun A a s o t h => ?_)
    obtain ⟨⟨r, rf1, e, hp, hB⟩, hF⟩ := h
    simp only [if_neg hc9] at hp hB
    refine ⟨⟨r, (k.1, k.2.1, k.2.2.1, (va_up k.2.2.2.1 k.2.2.2.2.1 cv), (k.2.2.2.2.1 + 1), rf1, k.2.2.2.2.2.2.1, k.2.2.2.2.2.2.2.1, k.2.2.2.2.2.2.2.2.1, k.2.2.2.2.2.2.2.2.2.1, k.2.2.2.2.2.2.2.2.2.2.1, k.2.2.2.2.2.2.2.2.2.2.2.1, k.2.2.2.2.2.2.2.2.2.2.2.2.1, k.2.2.2.2.2.2.2.2.2.2.2.2.2), e, ⟨?_, ?_⟩, ?_⟩, hF⟩
    · rw [← hty]; exact hp
    · exact ⟨hH, ⟨by show k.2.2.2.2.1 + 1 = (b.2.2.2.2.1 ++ [cv]).length; rw [List.length_append, hty]; rfl, by show ∀ j, j < (b.2.2.2.2.1 ++ [cv]).length → va_up k.2.2.2.1 k.2.2.2.2.1 cv j = _; rw [hty]; exact up_app hinp⟩, hHT⟩
    · exact hB
set_option maxHeartbeats 4000000 in
set_option maxRecDepth 100000 in
theorem m_X5_meanFar__A (l : Launch) (G : GG) (mc : MAd) (b : AS) (k : MJ) (th : Int32) (hv : vA b) (hok : okM b k) : MM l G yX5_meanFar cX5_meanFar 5 (some .double) ⟨3, 0, 0, 70⟩ [.ref mc.1] (MAW G mc b k th) (Qd_ G (fun (r : UInt64) (u : (MJ)) => (r = (qD (decide (¬ (cn (fkN (b.1.1 * b.1.2.1) b.1.2.2.1 b.1.2.2.2.1) (b.1.1 * b.1.2.1)) = 0)) (FP.ddiv (FP.i2d (nI (sm (faN b.1.1 b.1.2.1 b.1.2.2.1 b.1.2.2.2.1) (b.1.1 * b.1.2.1)))) (FP.i2d (nI (cn (fkN (b.1.1 * b.1.2.1) b.1.2.2.1 b.1.2.2.2.1) (b.1.1 * b.1.2.1))))) b).2.1) ∧ (okM (qD (decide (¬ (cn (fkN (b.1.1 * b.1.2.1) b.1.2.2.1 b.1.2.2.2.1) (b.1.1 * b.1.2.1)) = 0)) (FP.ddiv (FP.i2d (nI (sm (faN b.1.1 b.1.2.1 b.1.2.2.1 b.1.2.2.2.1) (b.1.1 * b.1.2.1)))) (FP.i2d (nI (cn (fkN (b.1.1 * b.1.2.1) b.1.2.2.1 b.1.2.2.2.1) (b.1.1 * b.1.2.1))))) b).2.2 u)) (fun (u : (MJ)) => (MAW G mc ((qD (decide (¬ (cn (fkN (b.1.1 * b.1.2.1) b.1.2.2.1 b.1.2.2.2.1) (b.1.1 * b.1.2.1)) = 0)) (FP.ddiv (FP.i2d (nI (sm (faN b.1.1 b.1.2.1 b.1.2.2.1 b.1.2.2.2.1) (b.1.1 * b.1.2.1)))) (FP.i2d (nI (cn (fkN (b.1.1 * b.1.2.1) b.1.2.2.1 b.1.2.2.2.1) (b.1.1 * b.1.2.1))))) b).2.2) u (nI (qD (decide (¬ (cn (fkN (b.1.1 * b.1.2.1) b.1.2.2.1 b.1.2.2.2.1) (b.1.1 * b.1.2.1)) = 0)) (FP.ddiv (FP.i2d (nI (sm (faN b.1.1 b.1.2.1 b.1.2.2.1 b.1.2.2.2.1) (b.1.1 * b.1.2.1)))) (FP.i2d (nI (cn (fkN (b.1.1 * b.1.2.1) b.1.2.2.1 b.1.2.2.2.1) (b.1.1 * b.1.2.1))))) b).1)))) := by
  obtain ⟨⟨hd, hLR, hKR, hL, hG⟩, hvs, hvh, hvb, hvl, ⟨rn, hrn, hrf⟩⟩ := id hv
  obtain ⟨hH, ⟨hty, hinp⟩, hHT⟩ := id hok
  have hmu := dm_mul hd
  refine (m_X5_meanFar l G mc.1 mc.2 b.1.1 b.1.2.1 b.1.2.2.1 b.1.2.2.2.1 b.1.2.2.2.2.1 b.1.2.2.2.2.2 k.1 k.2.1 (gZ b.2.1) k.2.2.1 b.2.2.1 k.2.2.2.1 k.2.2.2.2.1 b.2.2.2.2.2.2.1 b.2.2.2.2.2.2.2.1 b.2.2.2.2.2.2.2.2 k.2.2.2.2.2.1 k.2.2.2.2.2.2.1 k.2.2.2.2.2.2.2.1 th k.2.2.2.2.2.2.2.2.1 k.2.2.2.2.2.2.2.2.2.1 k.2.2.2.2.2.2.2.2.2.2.1 k.2.2.2.2.2.2.2.2.2.2.2.1 k.2.2.2.2.2.2.2.2.2.2.2.2.1 k.2.2.2.2.2.2.2.2.2.2.2.2.2 (by first | assumption | omega) (by first | assumption | omega) (by first | assumption | omega)).mono (fun A a s o t h => ?_)
  obtain ⟨⟨r, _, e, hp, hB⟩, hF⟩ := h
  refine ⟨⟨r, (k.1, k.2.1, k.2.2.1, k.2.2.2.1, k.2.2.2.2.1, k.2.2.2.2.2.1, k.2.2.2.2.2.2.1, k.2.2.2.2.2.2.2.1, k.2.2.2.2.2.2.2.2.1, k.2.2.2.2.2.2.2.2.2.1, k.2.2.2.2.2.2.2.2.2.2.1, k.2.2.2.2.2.2.2.2.2.2.2.1, k.2.2.2.2.2.2.2.2.2.2.2.2.1, k.2.2.2.2.2.2.2.2.2.2.2.2.2), e, ⟨?_, ?_⟩, ?_⟩, hF⟩
  · rw [hp, qD_v]
  · rw [qD_s]; exact hok
  · rw [qD_s, qD_th]; exact hB
set_option maxHeartbeats 4000000 in
set_option maxRecDepth 100000 in
theorem m_X5_undo__A (l : Launch) (G : GG) (mc : MAd) (b : AS) (k : MJ) (th : Int32) (hv : vA b) (hok : okM b k) : MM l G yX5_undo cX5_undo 1 (some .int) ⟨1, 0, 0, 24⟩ [.ref mc.1] (MAW G mc b k th) (Qi_ G (fun (r : Int32) (u : (MJ)) => (r = (qI (decide (0 < b.2.2.2.1.length)) (nI (b.2.2.2.1.length - 1)) b (unA b)).2.1) ∧ (okM (qI (decide (0 < b.2.2.2.1.length)) (nI (b.2.2.2.1.length - 1)) b (unA b)).2.2 u)) (fun (u : (MJ)) => (MAW G mc ((qI (decide (0 < b.2.2.2.1.length)) (nI (b.2.2.2.1.length - 1)) b (unA b)).2.2) u (nI (qI (decide (0 < b.2.2.2.1.length)) (nI (b.2.2.2.1.length - 1)) b (unA b)).1)))) := by
  obtain ⟨⟨hd, hLR, hKR, hL, hG⟩, hvs, hvh, hvb, hvl, ⟨rn, hrn, hrf⟩⟩ := id hv
  obtain ⟨hH, ⟨hty, hinp⟩, hHT⟩ := id hok
  have hmu := dm_mul hd
  by_cases hc9 : k.2.2.1 = 0
  ·
    rw [show (qI (decide (0 < b.2.2.2.1.length)) (nI (b.2.2.2.1.length - 1)) b (unA b)) = (1, nI 0, b) from qI_f (decide_eq_false (by rw [← hH.1]; omega))]
    refine (m_X5_undo l G mc.1 mc.2 b.1.1 b.1.2.1 b.1.2.2.1 b.1.2.2.2.1 b.1.2.2.2.2.1 b.1.2.2.2.2.2 k.1 k.2.1 (gZ b.2.1) k.2.2.1 b.2.2.1 k.2.2.2.1 k.2.2.2.2.1 b.2.2.2.2.2.2.1 b.2.2.2.2.2.2.2.1 b.2.2.2.2.2.2.2.2 k.2.2.2.2.2.1 k.2.2.2.2.2.2.1 k.2.2.2.2.2.2.2.1 th k.2.2.2.2.2.2.2.2.1 k.2.2.2.2.2.2.2.2.2.1 k.2.2.2.2.2.2.2.2.2.2.1 k.2.2.2.2.2.2.2.2.2.2.2.1 k.2.2.2.2.2.2.2.2.2.2.2.2.1 k.2.2.2.2.2.2.2.2.2.2.2.2.2 b.2.2.2.1 (by first | assumption | omega)).mono (fun A a s o t h => ?_)
    obtain ⟨⟨r, rf1, e, ⟨hp, hq9⟩, hB⟩, hF⟩ := h
    have hz0 : b.2.2.2.1 = [] := List.eq_nil_of_length_eq_zero (hH.1.symm.trans hc9)
    simp only [if_pos hc9] at hB
    rw [hz0] at hB
    refine ⟨⟨r, (k.1, k.2.1, (k.2.2.1 - 1), k.2.2.2.1, k.2.2.2.2.1, rf1, k.2.2.2.2.2.2.1, k.2.2.2.2.2.2.2.1, k.2.2.2.2.2.2.2.2.1, k.2.2.2.2.2.2.2.2.2.1, k.2.2.2.2.2.2.2.2.2.2.1, k.2.2.2.2.2.2.2.2.2.2.2.1, k.2.2.2.2.2.2.2.2.2.2.2.2.1, k.2.2.2.2.2.2.2.2.2.2.2.2.2), e, ⟨?_, ?_⟩, ?_⟩, hF⟩
    · rw [hp, hc9]
    · exact ⟨by rw [hz0] at hq9 ⊢; exact hq9, ⟨hty, hinp⟩, hHT⟩
    · exact hB
  ·
    rw [show (qI (decide (0 < b.2.2.2.1.length)) (nI (b.2.2.2.1.length - 1)) b (unA b)) = (0, nI (b.2.2.2.1.length - 1), unA b) from qI_t (decide_eq_true (by rw [← hH.1]; omega))]
    refine (m_X5_undo l G mc.1 mc.2 b.1.1 b.1.2.1 b.1.2.2.1 b.1.2.2.2.1 b.1.2.2.2.2.1 b.1.2.2.2.2.2 k.1 k.2.1 (gZ b.2.1) k.2.2.1 b.2.2.1 k.2.2.2.1 k.2.2.2.2.1 b.2.2.2.2.2.2.1 b.2.2.2.2.2.2.2.1 b.2.2.2.2.2.2.2.2 k.2.2.2.2.2.1 k.2.2.2.2.2.2.1 k.2.2.2.2.2.2.2.1 th k.2.2.2.2.2.2.2.2.1 k.2.2.2.2.2.2.2.2.2.1 k.2.2.2.2.2.2.2.2.2.2.1 k.2.2.2.2.2.2.2.2.2.2.2.1 k.2.2.2.2.2.2.2.2.2.2.2.2.1 k.2.2.2.2.2.2.2.2.2.2.2.2.2 b.2.2.2.1 (by first | assumption | omega)).mono (fun A a s o t h => ?_)
    obtain ⟨⟨r, rf1, e, ⟨hp, hq9⟩, hB⟩, hF⟩ := h
    simp only [if_neg hc9] at hB
    refine ⟨⟨r, (k.1, k.2.1, (k.2.2.1 - 1), k.2.2.2.1, k.2.2.2.2.1, rf1, k.2.2.2.2.2.2.1, k.2.2.2.2.2.2.2.1, k.2.2.2.2.2.2.2.2.1, k.2.2.2.2.2.2.2.2.2.1, k.2.2.2.2.2.2.2.2.2.2.1, k.2.2.2.2.2.2.2.2.2.2.2.1, k.2.2.2.2.2.2.2.2.2.2.2.2.1, k.2.2.2.2.2.2.2.2.2.2.2.2.2), e, ⟨?_, ?_⟩, ?_⟩, hF⟩
    · rw [hp, hH.1]
    · exact ⟨hq9, ⟨hty, hinp⟩, hHT⟩
    · exact hB
set_option maxHeartbeats 4000000 in
set_option maxRecDepth 100000 in
theorem m_X5_restore__A (l : Launch) (G : GG) (mc : MAd) (b : AS) (k : MJ) (th : Int32) (hv : vA b) (hok : okM b k) : MM l G yX5_restore cX5_restore 1 (some .int) ⟨3, 0, 0, 62⟩ [.ref mc.1] (MAW G mc b k th) (Qi_ G (fun (r : Int32) (u : (MJ)) => (r = (qI (b.2.2.1) (nI (hm b.2.1.1 b.2.1.2.1 b.2.1.2.2.1 b.2.1.2.2.2.1)) b (rsA b)).2.1) ∧ (okM (qI (b.2.2.1) (nI (hm b.2.1.1 b.2.1.2.1 b.2.1.2.2.1 b.2.1.2.2.2.1)) b (rsA b)).2.2 u)) (fun (u : (MJ)) => (MAW G mc ((qI (b.2.2.1) (nI (hm b.2.1.1 b.2.1.2.1 b.2.1.2.2.1 b.2.1.2.2.2.1)) b (rsA b)).2.2) u (nI (qI (b.2.2.1) (nI (hm b.2.1.1 b.2.1.2.1 b.2.1.2.2.1 b.2.1.2.2.2.1)) b (rsA b)).1)))) := by
  obtain ⟨⟨hd, hLR, hKR, hL, hG⟩, hvs, hvh, hvb, hvl, ⟨rn, hrn, hrf⟩⟩ := id hv
  obtain ⟨hH, ⟨hty, hinp⟩, hHT⟩ := id hok
  have hmu := dm_mul hd
  by_cases hc9 : b.2.2.1 = true
  ·
    rw [show (qI (b.2.2.1) (nI (hm b.2.1.1 b.2.1.2.1 b.2.1.2.2.1 b.2.1.2.2.2.1)) b (rsA b)) = (0, nI (hm b.2.1.1 b.2.1.2.1 b.2.1.2.2.1 b.2.1.2.2.2.1), rsA b) from qI_t hc9]
    refine (m_X5_restore l G mc.1 mc.2 b.1.1 b.1.2.1 b.1.2.2.1 b.1.2.2.2.1 b.1.2.2.2.2.1 b.1.2.2.2.2.2 k.1 k.2.1 k.2.2.1 b.2.2.1 k.2.2.2.1 k.2.2.2.2.1 b.2.2.2.2.2.2.1 b.2.2.2.2.2.2.2.1 b.2.2.2.2.2.2.2.2 k.2.2.2.2.2.1 k.2.2.2.2.2.2.1 k.2.2.2.2.2.2.2.1 th k.2.2.2.2.2.2.2.2.1 k.2.2.2.2.2.2.2.2.2.1 k.2.2.2.2.2.2.2.2.2.2.1 k.2.2.2.2.2.2.2.2.2.2.2.1 k.2.2.2.2.2.2.2.2.2.2.2.2.1 k.2.2.2.2.2.2.2.2.2.2.2.2.2 b.2.1 (fun h9 => ⟨(hvs h9).1, (hvs h9).2.1, (hvs h9).2.2.1⟩)).mono (fun A a s o t h => ?_)
    obtain ⟨⟨r, ⟨tr1, rf1⟩, e, hp, hB⟩, hF⟩ := h
    simp only [if_pos hc9, rsZ] at hp hB
    refine ⟨⟨r, (k.1, k.2.1, 0, k.2.2.2.1, k.2.2.2.2.1, rf1, k.2.2.2.2.2.2.1, k.2.2.2.2.2.2.2.1, tr1, k.2.2.2.2.2.2.2.2.2.1, k.2.2.2.2.2.2.2.2.2.2.1, k.2.2.2.2.2.2.2.2.2.2.2.1, k.2.2.2.2.2.2.2.2.2.2.2.2.1, k.2.2.2.2.2.2.2.2.2.2.2.2.2), e, ⟨?_, ?_⟩, ?_⟩, hF⟩
    · exact hp
    · exact ⟨⟨rfl, Nat.zero_le 8, fun i z h9 => by simp [rsA] at h9⟩, ⟨hty, hinp⟩, hHT⟩
    · exact hB
  ·
    rw [show (qI (b.2.2.1) (nI (hm b.2.1.1 b.2.1.2.1 b.2.1.2.2.1 b.2.1.2.2.2.1)) b (rsA b)) = (1, nI 0, b) from qI_f (by simpa using hc9)]
    refine (m_X5_restore l G mc.1 mc.2 b.1.1 b.1.2.1 b.1.2.2.1 b.1.2.2.2.1 b.1.2.2.2.2.1 b.1.2.2.2.2.2 k.1 k.2.1 k.2.2.1 b.2.2.1 k.2.2.2.1 k.2.2.2.2.1 b.2.2.2.2.2.2.1 b.2.2.2.2.2.2.2.1 b.2.2.2.2.2.2.2.2 k.2.2.2.2.2.1 k.2.2.2.2.2.2.1 k.2.2.2.2.2.2.2.1 th k.2.2.2.2.2.2.2.2.1 k.2.2.2.2.2.2.2.2.2.1 k.2.2.2.2.2.2.2.2.2.2.1 k.2.2.2.2.2.2.2.2.2.2.2.1 k.2.2.2.2.2.2.2.2.2.2.2.2.1 k.2.2.2.2.2.2.2.2.2.2.2.2.2 b.2.1 (fun h9 => ⟨(hvs h9).1, (hvs h9).2.1, (hvs h9).2.2.1⟩)).mono (fun A a s o t h => ?_)
    obtain ⟨⟨r, ⟨tr1, rf1⟩, e, hp, hB⟩, hF⟩ := h
    simp only [if_neg hc9, rsZ] at hp hB
    refine ⟨⟨r, (k.1, k.2.1, k.2.2.1, k.2.2.2.1, k.2.2.2.2.1, rf1, k.2.2.2.2.2.2.1, k.2.2.2.2.2.2.2.1, tr1, k.2.2.2.2.2.2.2.2.2.1, k.2.2.2.2.2.2.2.2.2.2.1, k.2.2.2.2.2.2.2.2.2.2.2.1, k.2.2.2.2.2.2.2.2.2.2.2.2.1, k.2.2.2.2.2.2.2.2.2.2.2.2.2), e, ⟨?_, ?_⟩, ?_⟩, hF⟩
    · exact hp
    · exact hok
    · exact hB
set_option maxHeartbeats 4000000 in
set_option maxRecDepth 100000 in
theorem m_X5_board__A (l : Launch) (G : GG) (mc : MAd) (b : AS) (k : MJ) (th : Int32) (p0 : Int32) (p1 : Int32) (hv : vA b) (hok : okM b k) : MM l G yX5_board cX5_board 3 (some .int) ⟨2, 0, 0, 46⟩ [.ref mc.1, .int p0, .int p1] (MAW G mc b k th) (Qi_ G (fun (r : Int32) (u : (MJ)) => (r = (qO b (oBoard (fun _ => 97) b.1 p0 p1)).2.1) ∧ (okM (qO b (oBoard (fun _ => 97) b.1 p0 p1)).2.2 u)) (fun (u : (MJ)) => (MAW G mc ((qO b (oBoard (fun _ => 97) b.1 p0 p1)).2.2) u (nI (qO b (oBoard (fun _ => 97) b.1 p0 p1)).1)))) := by
  obtain ⟨⟨hd, hLR, hKR, hL, hG⟩, hvs, hvh, hvb, hvl, ⟨rn, hrn, hrf⟩⟩ := id hv
  obtain ⟨hH, ⟨hty, hinp⟩, hHT⟩ := id hok
  have hmu := dm_mul hd
  refine (m_X5_board l G mc.1 mc.2 b.1.1 b.1.2.1 b.1.2.2.1 b.1.2.2.2.1 b.1.2.2.2.2.1 b.1.2.2.2.2.2 k.1 k.2.1 (gZ b.2.1) k.2.2.1 b.2.2.1 k.2.2.2.1 k.2.2.2.2.1 b.2.2.2.2.2.2.1 b.2.2.2.2.2.2.2.1 b.2.2.2.2.2.2.2.2 k.2.2.2.2.2.1 k.2.2.2.2.2.2.1 k.2.2.2.2.2.2.2.1 th k.2.2.2.2.2.2.2.2.1 k.2.2.2.2.2.2.2.2.2.1 k.2.2.2.2.2.2.2.2.2.2.1 k.2.2.2.2.2.2.2.2.2.2.2.1 k.2.2.2.2.2.2.2.2.2.2.2.2.1 k.2.2.2.2.2.2.2.2.2.2.2.2.2 p0 p1 b.2.2.2.1 (by first | assumption | omega) (by first | assumption | omega)).mono (fun A a s o t h => ?_)
  obtain ⟨⟨r, ⟨hi1, ch1⟩, e, ⟨hp, hq9⟩, hB⟩, hF⟩ := h
  refine ⟨⟨r, ((gZ (b.1.1, b.1.2.1, b.1.2.2.1, b.1.2.2.2.1, b.1.2.2.2.2.1, b.1.2.2.2.2.2)), hi1, ch1, k.2.2.2.1, k.2.2.2.2.1, (oRf (oBoard (fun _ => 97) (b.1.1, b.1.2.1, b.1.2.2.1, b.1.2.2.2.1, b.1.2.2.2.2.1, b.1.2.2.2.2.2) p0 p1) k.2.2.2.2.2.1), k.2.2.2.2.2.2.1, k.2.2.2.2.2.2.2.1, k.2.2.2.2.2.2.2.2.1, k.2.2.2.2.2.2.2.2.2.1, k.2.2.2.2.2.2.2.2.2.2.1, k.2.2.2.2.2.2.2.2.2.2.2.1, k.2.2.2.2.2.2.2.2.2.2.2.2.1, k.2.2.2.2.2.2.2.2.2.2.2.2.2), e, ⟨?_, ?_⟩, ?_⟩, hF⟩
  · exact hp
  · rw [show (qO b (oBoard (fun _ => 97) b.1 p0 p1)).2.2 = _ from asO_eq (ok_board _ _ _ _)]; exact ⟨hq9, ⟨hty, hinp⟩, hHT⟩
  · rw [show (qO b (oBoard (fun _ => 97) b.1 p0 p1)).2.2 = _ from asO_eq (ok_board _ _ _ _)]; exact hB
set_option maxHeartbeats 4000000 in
set_option maxRecDepth 100000 in
theorem m_X5_scramble__A (l : Launch) (G : GG) (mc : MAd) (b : AS) (k : MJ) (th : Int32) (p0 : Int32) (p1 : Int32) (hv : vA b) (hok : okM b k) : MM l G yX5_scramble cX5_scramble 3 (some .int) ⟨4, 0, 0, 96⟩ [.ref mc.1, .int p0, .int p1] (MAW G mc b k th) (Qi_ G (fun (r : Int32) (u : (MJ)) => (r = (qO b (oScr b.1 p0 p1)).2.1) ∧ (okM (qO b (oScr b.1 p0 p1)).2.2 u)) (fun (u : (MJ)) => (MAW G mc ((qO b (oScr b.1 p0 p1)).2.2) u (nI (qO b (oScr b.1 p0 p1)).1)))) := by
  obtain ⟨⟨hd, hLR, hKR, hL, hG⟩, hvs, hvh, hvb, hvl, ⟨rn, hrn, hrf⟩⟩ := id hv
  obtain ⟨hH, ⟨hty, hinp⟩, hHT⟩ := id hok
  have hmu := dm_mul hd
  refine (m_X5_scramble l G mc.1 mc.2 b.1.1 b.1.2.1 b.1.2.2.1 b.1.2.2.2.1 b.1.2.2.2.2.1 b.1.2.2.2.2.2 k.1 k.2.1 (gZ b.2.1) k.2.2.1 b.2.2.1 k.2.2.2.1 k.2.2.2.2.1 b.2.2.2.2.2.2.1 b.2.2.2.2.2.2.2.1 b.2.2.2.2.2.2.2.2 k.2.2.2.2.2.1 k.2.2.2.2.2.2.1 k.2.2.2.2.2.2.2.1 th k.2.2.2.2.2.2.2.2.1 k.2.2.2.2.2.2.2.2.2.1 k.2.2.2.2.2.2.2.2.2.2.1 k.2.2.2.2.2.2.2.2.2.2.2.1 k.2.2.2.2.2.2.2.2.2.2.2.2.1 k.2.2.2.2.2.2.2.2.2.2.2.2.2 p0 p1 b.2.2.2.1 (by first | assumption | omega) (by first | assumption | omega) (by first | assumption | omega) (by first | assumption | omega)).mono (fun A a s o t h => ?_)
  obtain ⟨⟨r, ⟨hi1, ch1, tr1, mv1⟩, e, ⟨hp, hq9⟩, hB⟩, hF⟩ := h
  refine ⟨⟨r, ((gZ (b.1.1, b.1.2.1, b.1.2.2.1, b.1.2.2.2.1, b.1.2.2.2.2.1, b.1.2.2.2.2.2)), hi1, ch1, k.2.2.2.1, k.2.2.2.2.1, (oRf (oScr (b.1.1, b.1.2.1, b.1.2.2.1, b.1.2.2.2.1, b.1.2.2.2.2.1, b.1.2.2.2.2.2) p0 p1) k.2.2.2.2.2.1), k.2.2.2.2.2.2.1, k.2.2.2.2.2.2.2.1, tr1, mv1, k.2.2.2.2.2.2.2.2.2.2.1, k.2.2.2.2.2.2.2.2.2.2.2.1, k.2.2.2.2.2.2.2.2.2.2.2.2.1, k.2.2.2.2.2.2.2.2.2.2.2.2.2), e, ⟨?_, ?_⟩, ?_⟩, hF⟩
  · exact hp
  · rw [show (qO b (oScr b.1 p0 p1)).2.2 = _ from asO_eq (ok_scr _ _ _)]; exact ⟨hq9, ⟨hty, hinp⟩, hHT⟩
  · rw [show (qO b (oScr b.1 p0 p1)).2.2 = _ from asO_eq (ok_scr _ _ _)]; exact hB
set_option maxHeartbeats 4000000 in
set_option maxRecDepth 100000 in
theorem m_X5_turn__A (l : Launch) (G : GG) (mc : MAd) (b : AS) (k : MJ) (th : Int32) (p0 : Int32) (hv : vA b) (hok : okM b k) : MM l G yX5_turn cX5_turn 2 (some .int) ⟨5, 0, 0, 113⟩ [.ref mc.1, .int p0] (MAW G mc b k th) (Qi_ G (fun (r : Int32) (u : (MJ)) => (r = (qO b (oTurn b.1 p0)).2.1) ∧ (okM (qO b (oTurn b.1 p0)).2.2 u)) (fun (u : (MJ)) => (MAW G mc ((qO b (oTurn b.1 p0)).2.2) u (nI (qO b (oTurn b.1 p0)).1)))) := by
  obtain ⟨⟨hd, hLR, hKR, hL, hG⟩, hvs, hvh, hvb, hvl, ⟨rn, hrn, hrf⟩⟩ := id hv
  obtain ⟨hH, ⟨hty, hinp⟩, hHT⟩ := id hok
  have hmu := dm_mul hd
  refine (m_X5_turn l G mc.1 mc.2 b.1.1 b.1.2.1 b.1.2.2.1 b.1.2.2.2.1 b.1.2.2.2.2.1 b.1.2.2.2.2.2 k.1 k.2.1 (gZ b.2.1) k.2.2.1 b.2.2.1 k.2.2.2.1 k.2.2.2.2.1 b.2.2.2.2.2.2.1 b.2.2.2.2.2.2.2.1 b.2.2.2.2.2.2.2.2 k.2.2.2.2.2.1 k.2.2.2.2.2.2.1 k.2.2.2.2.2.2.2.1 th k.2.2.2.2.2.2.2.2.1 k.2.2.2.2.2.2.2.2.2.1 k.2.2.2.2.2.2.2.2.2.2.1 k.2.2.2.2.2.2.2.2.2.2.2.1 k.2.2.2.2.2.2.2.2.2.2.2.2.1 k.2.2.2.2.2.2.2.2.2.2.2.2.2 p0 b.2.2.2.1 (by first | assumption | omega) (by first | assumption | omega) (by first | assumption | omega) (by first | assumption | omega)).mono (fun A a s o t h => ?_)
  obtain ⟨⟨r, ⟨hi1, ch1, tr1, mv1⟩, e, ⟨hp, hq9⟩, hB⟩, hF⟩ := h
  refine ⟨⟨r, ((gZ (b.1.1, b.1.2.1, b.1.2.2.1, b.1.2.2.2.1, b.1.2.2.2.2.1, b.1.2.2.2.2.2)), hi1, ch1, k.2.2.2.1, k.2.2.2.2.1, (oRf (oTurn (b.1.1, b.1.2.1, b.1.2.2.1, b.1.2.2.2.1, b.1.2.2.2.2.1, b.1.2.2.2.2.2) p0) k.2.2.2.2.2.1), k.2.2.2.2.2.2.1, k.2.2.2.2.2.2.2.1, tr1, mv1, k.2.2.2.2.2.2.2.2.2.2.1, k.2.2.2.2.2.2.2.2.2.2.2.1, k.2.2.2.2.2.2.2.2.2.2.2.2.1, k.2.2.2.2.2.2.2.2.2.2.2.2.2), e, ⟨?_, ?_⟩, ?_⟩, hF⟩
  · exact hp
  · rw [show (qO b (oTurn b.1 p0)).2.2 = _ from asO_eq (ok_turn _ _)]; exact ⟨hq9, ⟨hty, hinp⟩, hHT⟩
  · rw [show (qO b (oTurn b.1 p0)).2.2 = _ from asO_eq (ok_turn _ _)]; exact hB
set_option maxHeartbeats 4000000 in
set_option maxRecDepth 100000 in
theorem m_X5_swap__A (l : Launch) (G : GG) (mc : MAd) (b : AS) (k : MJ) (th : Int32) (p0 : Int32) (p1 : Int32) (hv : vA b) (hok : okM b k) : MM l G yX5_swap cX5_swap 3 (some .int) ⟨4, 0, 0, 85⟩ [.ref mc.1, .int p0, .int p1] (MAW G mc b k th) (Qi_ G (fun (r : Int32) (u : (MJ)) => (r = (qO b (oSwap b.1 p0 p1)).2.1) ∧ (okM (qO b (oSwap b.1 p0 p1)).2.2 u)) (fun (u : (MJ)) => (MAW G mc ((qO b (oSwap b.1 p0 p1)).2.2) u (nI (qO b (oSwap b.1 p0 p1)).1)))) := by
  obtain ⟨⟨hd, hLR, hKR, hL, hG⟩, hvs, hvh, hvb, hvl, ⟨rn, hrn, hrf⟩⟩ := id hv
  obtain ⟨hH, ⟨hty, hinp⟩, hHT⟩ := id hok
  have hmu := dm_mul hd
  refine (m_X5_swap l G mc.1 mc.2 b.1.1 b.1.2.1 b.1.2.2.1 b.1.2.2.2.1 b.1.2.2.2.2.1 b.1.2.2.2.2.2 k.1 k.2.1 (gZ b.2.1) k.2.2.1 b.2.2.1 k.2.2.2.1 k.2.2.2.2.1 b.2.2.2.2.2.2.1 b.2.2.2.2.2.2.2.1 b.2.2.2.2.2.2.2.2 k.2.2.2.2.2.1 k.2.2.2.2.2.2.1 k.2.2.2.2.2.2.2.1 th k.2.2.2.2.2.2.2.2.1 k.2.2.2.2.2.2.2.2.2.1 k.2.2.2.2.2.2.2.2.2.2.1 k.2.2.2.2.2.2.2.2.2.2.2.1 k.2.2.2.2.2.2.2.2.2.2.2.2.1 k.2.2.2.2.2.2.2.2.2.2.2.2.2 p0 p1 b.2.2.2.1 (by first | assumption | omega) (by first | assumption | omega) (by first | assumption | omega) (by first | assumption | omega)).mono (fun A a s o t h => ?_)
  obtain ⟨⟨r, ⟨hi1, ch1, tr1⟩, e, ⟨hp, hq9⟩, hB⟩, hF⟩ := h
  refine ⟨⟨r, ((gZ (b.1.1, b.1.2.1, b.1.2.2.1, b.1.2.2.2.1, b.1.2.2.2.2.1, b.1.2.2.2.2.2)), hi1, ch1, k.2.2.2.1, k.2.2.2.2.1, (oRf (oSwap (b.1.1, b.1.2.1, b.1.2.2.1, b.1.2.2.2.1, b.1.2.2.2.2.1, b.1.2.2.2.2.2) p0 p1) k.2.2.2.2.2.1), k.2.2.2.2.2.2.1, k.2.2.2.2.2.2.2.1, tr1, k.2.2.2.2.2.2.2.2.2.1, k.2.2.2.2.2.2.2.2.2.2.1, k.2.2.2.2.2.2.2.2.2.2.2.1, k.2.2.2.2.2.2.2.2.2.2.2.2.1, k.2.2.2.2.2.2.2.2.2.2.2.2.2), e, ⟨?_, ?_⟩, ?_⟩, hF⟩
  · exact hp
  · rw [show (qO b (oSwap b.1 p0 p1)).2.2 = _ from asO_eq (ok_swap _ _ _)]; exact ⟨hq9, ⟨hty, hinp⟩, hHT⟩
  · rw [show (qO b (oSwap b.1 p0 p1)).2.2 = _ from asO_eq (ok_swap _ _ _)]; exact hB
set_option maxHeartbeats 4000000 in
set_option maxRecDepth 100000 in
theorem m_X5_step__A (l : Launch) (G : GG) (mc : MAd) (b : AS) (k : MJ) (th : Int32) (hv : vA b) (hok : okM b k) : MM l G yX5_step cX5_step 1 (some .int) ⟨5, 0, 0, 272⟩ [.ref mc.1] (MAW G mc b k th) (Qi_ G (fun (r : Int32) (u : (MJ)) => (r = (qO b (oStep b.1)).2.1) ∧ (okM (qO b (oStep b.1)).2.2 u)) (fun (u : (MJ)) => (MAW G mc ((qO b (oStep b.1)).2.2) u (nI (qO b (oStep b.1)).1)))) := by
  obtain ⟨⟨hd, hLR, hKR, hL, hG⟩, hvs, hvh, hvb, hvl, ⟨rn, hrn, hrf⟩⟩ := id hv
  obtain ⟨hH, ⟨hty, hinp⟩, hHT⟩ := id hok
  have hmu := dm_mul hd
  refine (m_X5_step l G mc.1 mc.2 b.1.1 b.1.2.1 b.1.2.2.1 b.1.2.2.2.1 b.1.2.2.2.2.1 b.1.2.2.2.2.2 k.1 k.2.1 (gZ b.2.1) k.2.2.1 b.2.2.1 k.2.2.2.1 k.2.2.2.2.1 b.2.2.2.2.2.2.1 b.2.2.2.2.2.2.2.1 b.2.2.2.2.2.2.2.2 k.2.2.2.2.2.1 k.2.2.2.2.2.2.1 k.2.2.2.2.2.2.2.1 th k.2.2.2.2.2.2.2.2.1 k.2.2.2.2.2.2.2.2.2.1 k.2.2.2.2.2.2.2.2.2.2.1 k.2.2.2.2.2.2.2.2.2.2.2.1 k.2.2.2.2.2.2.2.2.2.2.2.2.1 k.2.2.2.2.2.2.2.2.2.2.2.2.2 b.2.2.2.1 (by first | assumption | omega) (by first | assumption | omega) (by first | assumption | omega) (by first | assumption | omega)).mono (fun A a s o t h => ?_)
  obtain ⟨⟨r, ⟨hi1, ch1, tr1, mv1, fo1⟩, e, ⟨hp, hq9⟩, hB⟩, hF⟩ := h
  refine ⟨⟨r, ((gZ (b.1.1, b.1.2.1, b.1.2.2.1, b.1.2.2.2.1, b.1.2.2.2.2.1, b.1.2.2.2.2.2)), hi1, ch1, k.2.2.2.1, k.2.2.2.2.1, (oRf (oStep (b.1.1, b.1.2.1, b.1.2.2.1, b.1.2.2.2.1, b.1.2.2.2.2.1, b.1.2.2.2.2.2)) k.2.2.2.2.2.1), k.2.2.2.2.2.2.1, k.2.2.2.2.2.2.2.1, tr1, mv1, fo1, k.2.2.2.2.2.2.2.2.2.2.2.1, k.2.2.2.2.2.2.2.2.2.2.2.2.1, k.2.2.2.2.2.2.2.2.2.2.2.2.2), e, ⟨?_, ?_⟩, ?_⟩, hF⟩
  · exact hp
  · rw [show (qO b (oStep b.1)).2.2 = _ from asO_eq (ok_step _)]; exact ⟨hq9, ⟨hty, hinp⟩, hHT⟩
  · rw [show (qO b (oStep b.1)).2.2 = _ from asO_eq (ok_step _)]; exact hB
set_option maxHeartbeats 4000000 in
set_option maxRecDepth 100000 in
theorem m_X5_put__A (l : Launch) (G : GG) (mc : MAd) (b : AS) (k : MJ) (th : Int32) (p0 : Int32) (cv : Nat) (hv : vA b) (hok : okM b k) : MM l G yX5_put cX5_put 3 (some .char) ⟨3, 0, 0, 69⟩ [.ref mc.1, .int p0, .int (nI cv)] (MAW G mc b k th) (Qi_ G (fun (r : Int32) (u : (MJ)) => (r = (qO b (oPut b.1 p0 (nI cv))).2.1) ∧ (okM (qO b (oPut b.1 p0 (nI cv))).2.2 u)) (fun (u : (MJ)) => (MAW G mc ((qO b (oPut b.1 p0 (nI cv))).2.2) u (nI (qO b (oPut b.1 p0 (nI cv))).1)))) := by
  obtain ⟨⟨hd, hLR, hKR, hL, hG⟩, hvs, hvh, hvb, hvl, ⟨rn, hrn, hrf⟩⟩ := id hv
  obtain ⟨hH, ⟨hty, hinp⟩, hHT⟩ := id hok
  have hmu := dm_mul hd
  refine (m_X5_put l G mc.1 mc.2 b.1.1 b.1.2.1 b.1.2.2.1 b.1.2.2.2.1 b.1.2.2.2.2.1 b.1.2.2.2.2.2 k.1 k.2.1 (gZ b.2.1) k.2.2.1 b.2.2.1 k.2.2.2.1 k.2.2.2.2.1 b.2.2.2.2.2.2.1 b.2.2.2.2.2.2.2.1 b.2.2.2.2.2.2.2.2 k.2.2.2.2.2.1 k.2.2.2.2.2.2.1 k.2.2.2.2.2.2.2.1 th k.2.2.2.2.2.2.2.2.1 k.2.2.2.2.2.2.2.2.2.1 k.2.2.2.2.2.2.2.2.2.2.1 k.2.2.2.2.2.2.2.2.2.2.2.1 k.2.2.2.2.2.2.2.2.2.2.2.2.1 k.2.2.2.2.2.2.2.2.2.2.2.2.2 p0 (nI cv) b.2.2.2.1 (by first | assumption | omega) (by first | assumption | omega) (by first | assumption | omega)).mono (fun A a s o t h => ?_)
  obtain ⟨⟨r, ⟨hi1, ch1⟩, e, ⟨hp, hq9⟩, hB⟩, hF⟩ := h
  refine ⟨⟨r, ((gZ (b.1.1, b.1.2.1, b.1.2.2.1, b.1.2.2.2.1, b.1.2.2.2.2.1, b.1.2.2.2.2.2)), hi1, ch1, k.2.2.2.1, k.2.2.2.2.1, (oRf (oPut (b.1.1, b.1.2.1, b.1.2.2.1, b.1.2.2.2.1, b.1.2.2.2.2.1, b.1.2.2.2.2.2) p0 (nI cv)) k.2.2.2.2.2.1), k.2.2.2.2.2.2.1, k.2.2.2.2.2.2.2.1, k.2.2.2.2.2.2.2.2.1, k.2.2.2.2.2.2.2.2.2.1, k.2.2.2.2.2.2.2.2.2.2.1, k.2.2.2.2.2.2.2.2.2.2.2.1, k.2.2.2.2.2.2.2.2.2.2.2.2.1, k.2.2.2.2.2.2.2.2.2.2.2.2.2), e, ⟨?_, ?_⟩, ?_⟩, hF⟩
  · exact hp
  · rw [show (qO b (oPut b.1 p0 (nI cv))).2.2 = _ from asO_eq (ok_put _ _ _)]; exact ⟨hq9, ⟨hty, hinp⟩, hHT⟩
  · rw [show (qO b (oPut b.1 p0 (nI cv))).2.2 = _ from asO_eq (ok_put _ _ _)]; exact hB
set_option maxHeartbeats 4000000 in
set_option maxRecDepth 100000 in
theorem m_X5_goal__A (l : Launch) (G : GG) (mc : MAd) (b : AS) (k : MJ) (th : Int32) (p0 : Int32) (cv : Nat) (hv : vA b) (hok : okM b k) : MM l G yX5_goal cX5_goal 3 (some .char) ⟨3, 0, 0, 69⟩ [.ref mc.1, .int p0, .int (nI cv)] (MAW G mc b k th) (Qi_ G (fun (r : Int32) (u : (MJ)) => (r = (qO b (oGoal b.1 p0 (nI cv))).2.1) ∧ (okM (qO b (oGoal b.1 p0 (nI cv))).2.2 u)) (fun (u : (MJ)) => (MAW G mc ((qO b (oGoal b.1 p0 (nI cv))).2.2) u (nI (qO b (oGoal b.1 p0 (nI cv))).1)))) := by
  obtain ⟨⟨hd, hLR, hKR, hL, hG⟩, hvs, hvh, hvb, hvl, ⟨rn, hrn, hrf⟩⟩ := id hv
  obtain ⟨hH, ⟨hty, hinp⟩, hHT⟩ := id hok
  have hmu := dm_mul hd
  refine (m_X5_goal l G mc.1 mc.2 b.1.1 b.1.2.1 b.1.2.2.1 b.1.2.2.2.1 b.1.2.2.2.2.1 b.1.2.2.2.2.2 k.1 k.2.1 (gZ b.2.1) k.2.2.1 b.2.2.1 k.2.2.2.1 k.2.2.2.2.1 b.2.2.2.2.2.2.1 b.2.2.2.2.2.2.2.1 b.2.2.2.2.2.2.2.2 k.2.2.2.2.2.1 k.2.2.2.2.2.2.1 k.2.2.2.2.2.2.2.1 th k.2.2.2.2.2.2.2.2.1 k.2.2.2.2.2.2.2.2.2.1 k.2.2.2.2.2.2.2.2.2.2.1 k.2.2.2.2.2.2.2.2.2.2.2.1 k.2.2.2.2.2.2.2.2.2.2.2.2.1 k.2.2.2.2.2.2.2.2.2.2.2.2.2 p0 (nI cv) b.2.2.2.1 (by first | assumption | omega) (by first | assumption | omega) (by first | assumption | omega)).mono (fun A a s o t h => ?_)
  obtain ⟨⟨r, ⟨hi1, ch1⟩, e, ⟨hp, hq9⟩, hB⟩, hF⟩ := h
  refine ⟨⟨r, ((gZ (b.1.1, b.1.2.1, b.1.2.2.1, b.1.2.2.2.1, b.1.2.2.2.2.1, b.1.2.2.2.2.2)), hi1, ch1, k.2.2.2.1, k.2.2.2.2.1, (oRf (oGoal (b.1.1, b.1.2.1, b.1.2.2.1, b.1.2.2.2.1, b.1.2.2.2.2.1, b.1.2.2.2.2.2) p0 (nI cv)) k.2.2.2.2.2.1), k.2.2.2.2.2.2.1, k.2.2.2.2.2.2.2.1, k.2.2.2.2.2.2.2.2.1, k.2.2.2.2.2.2.2.2.2.1, k.2.2.2.2.2.2.2.2.2.2.1, k.2.2.2.2.2.2.2.2.2.2.2.1, k.2.2.2.2.2.2.2.2.2.2.2.2.1, k.2.2.2.2.2.2.2.2.2.2.2.2.2), e, ⟨?_, ?_⟩, ?_⟩, hF⟩
  · exact hp
  · rw [show (qO b (oGoal b.1 p0 (nI cv))).2.2 = _ from asO_eq (ok_goal _ _ _)]; exact ⟨hq9, ⟨hty, hinp⟩, hHT⟩
  · rw [show (qO b (oGoal b.1 p0 (nI cv))).2.2 = _ from asO_eq (ok_goal _ _ _)]; exact hB
theorem qR_s {J : Nat → Nat} {b : AS} : (qR J b).2.2 = ((runO J (xt b.2.2.2.2.1) b.2.2.2.2.1.length b.1).2.1, b.2.1, b.2.2.1, oH (runO J (xt b.2.2.2.2.1) b.2.2.2.2.1.length b.1) b.2.2.2.1 b.1, [], b.2.2.2.2.2.1, faR b, oWy (runO J (xt b.2.2.2.2.1) b.2.2.2.2.1.length b.1) b.2.2.2.2.2.2.2.1, oWd (runO J (xt b.2.2.2.2.1) b.2.2.2.2.1.length b.1) b.2.2.2.2.2.2.2.2) := by
  show ruA b _ _ = _
  unfold ruA
  rw [asO_eq (ok_run _ _ _ _)]
set_option maxHeartbeats 4000000 in
set_option maxRecDepth 100000 in
theorem m_X5_run__A (l : Launch) (G : GG) (mc : MAd) (b : AS) (k : MJ) (th : Int32) (hv : vA b) (hok : okM b k) : MM l G yX5_run cX5_run 5 (some .int) ⟨6, 0, 0, 136⟩ [.ref mc.1] (MAW G mc b k th) (Qi_ G (fun (r : Int32) (u : (MJ)) => (r = (qR (fun _ => 97) b).2.1) ∧ (okM (qR (fun _ => 97) b).2.2 u)) (fun (u : (MJ)) => (MAW G mc ((qR (fun _ => 97) b).2.2) u (nI (qR (fun _ => 97) b).1)))) := by
  obtain ⟨⟨hd, hLR, hKR, hL, hG⟩, hvs, hvh, hvb, hvl, ⟨rn, hrn, hrf⟩⟩ := id hv
  obtain ⟨hH, ⟨hty, hinp⟩, hHT⟩ := id hok
  have hmu := dm_mul hd
  have hru : ∀ z, runO (fun _ => 97) k.2.2.2.1 k.2.2.2.2.1 z = runO (fun _ => 97) (xt b.2.2.2.2.1) b.2.2.2.2.1.length z := fun z => by rw [hty]; exact runO_cg hinp _ _
  have hrd : rdP k.2.2.2.1 k.2.2.2.2.1 62 0 = rdP (xt b.2.2.2.2.1) b.2.2.2.2.1.length 62 0 := by rw [hty]; exact rdP_cg hinp _ _
  refine (m_X5_run l G mc.1 mc.2 b.1.1 b.1.2.1 b.1.2.2.1 b.1.2.2.2.1 b.1.2.2.2.2.1 b.1.2.2.2.2.2 k.1 k.2.1 (gZ b.2.1) k.2.2.1 b.2.2.1 k.2.2.2.1 k.2.2.2.2.1 b.2.2.2.2.2.2.1 b.2.2.2.2.2.2.2.1 b.2.2.2.2.2.2.2.2 k.2.2.2.2.2.1 k.2.2.2.2.2.2.1 k.2.2.2.2.2.2.2.1 th k.2.2.2.2.2.2.2.2.1 k.2.2.2.2.2.2.2.2.2.1 k.2.2.2.2.2.2.2.2.2.2.1 k.2.2.2.2.2.2.2.2.2.2.2.1 k.2.2.2.2.2.2.2.2.2.2.2.2.1 k.2.2.2.2.2.2.2.2.2.2.2.2.2 b.2.2.2.1 (by first | assumption | omega) (by first | assumption | omega) (by first | assumption | omega) (fun j hj => by rw [hty] at hj; rw [hinp j hj]; exact hvb.2 j) (by omega) (by first | assumption | omega) hL hG).mono (fun A a s o t h => ?_)
  obtain ⟨⟨r, ⟨hi1, ch1, bf1, tr1, mv1, sp1, wr1, td1, rf1⟩, e, ⟨hp, hq9⟩, hB⟩, hF⟩ := h
  rw [hrd] at hB
  simp only [hru] at hp hq9 hB
  refine ⟨⟨r, (bf1, hi1, ch1, k.2.2.2.1, 0, rf1, k.2.2.2.2.2.2.1, k.2.2.2.2.2.2.2.1, tr1, mv1, k.2.2.2.2.2.2.2.2.2.2.1, sp1, wr1, td1), e, ⟨?_, ?_⟩, ?_⟩, hF⟩
  · exact hp
  · rw [qR_s]; exact ⟨hq9, ⟨rfl, fun j hj => absurd hj (Nat.not_lt_zero j)⟩, hHT⟩
  · rw [qR_s]; exact hB
set_option maxHeartbeats 4000000 in
set_option maxRecDepth 100000 in
theorem m_X5_isOut__A (l : Launch) (G : GG) (mc : MAd) (b : AS) (k : MJ) (th : Int32) (hv : vA b) (hok : okM b k) : MM l G yX5_isOut cX5_isOut 1 (some .boolean) ⟨4, 0, 0, 88⟩ [.ref mc.1] (MAW G mc b k th) (Qi_ G (fun (r : Int32) (u : (MJ)) => (r = bI (otN b.1.1 b.1.2.1 b.1.2.2.1 b.1.2.2.2.1)) ∧ (okM b u)) (fun (u : (MJ)) => (MAW G mc b u (nI 0)))) := by
  obtain ⟨⟨hd, hLR, hKR, hL, hG⟩, hvs, hvh, hvb, hvl, ⟨rn, hrn, hrf⟩⟩ := id hv
  obtain ⟨hH, ⟨hty, hinp⟩, hHT⟩ := id hok
  have hmu := dm_mul hd
  refine (m_X5_isOut l G mc.1 mc.2 b.1.1 b.1.2.1 b.1.2.2.1 b.1.2.2.2.1 b.1.2.2.2.2.1 b.1.2.2.2.2.2 k.1 k.2.1 (gZ b.2.1) k.2.2.1 b.2.2.1 k.2.2.2.1 k.2.2.2.2.1 b.2.2.2.2.2.2.1 b.2.2.2.2.2.2.2.1 b.2.2.2.2.2.2.2.2 k.2.2.2.2.2.1 k.2.2.2.2.2.2.1 k.2.2.2.2.2.2.2.1 th k.2.2.2.2.2.2.2.2.1 k.2.2.2.2.2.2.2.2.2.1 k.2.2.2.2.2.2.2.2.2.2.1 k.2.2.2.2.2.2.2.2.2.2.2.1 k.2.2.2.2.2.2.2.2.2.2.2.2.1 k.2.2.2.2.2.2.2.2.2.2.2.2.2 (by first | assumption | omega) (by first | assumption | omega) (by first | assumption | omega)).mono (fun A a s o t h => ?_)
  obtain ⟨⟨r, mv1, e, hp, hB⟩, hF⟩ := h
  refine ⟨⟨r, (k.1, k.2.1, k.2.2.1, k.2.2.2.1, k.2.2.2.2.1, k.2.2.2.2.2.1, k.2.2.2.2.2.2.1, k.2.2.2.2.2.2.2.1, k.2.2.2.2.2.2.2.2.1, mv1, k.2.2.2.2.2.2.2.2.2.2.1, k.2.2.2.2.2.2.2.2.2.2.2.1, k.2.2.2.2.2.2.2.2.2.2.2.2.1, k.2.2.2.2.2.2.2.2.2.2.2.2.2), e, ⟨?_, ?_⟩, ?_⟩, hF⟩
  · exact hp
  · exact hok
  · exact hB
set_option maxHeartbeats 4000000 in
set_option maxRecDepth 100000 in
theorem m_X5_home__A (l : Launch) (G : GG) (mc : MAd) (b : AS) (k : MJ) (th : Int32) (hv : vA b) (hok : okM b k) : MM l G yX5_home cX5_home 1 (some .int) ⟨3, 0, 0, 62⟩ [.ref mc.1] (MAW G mc b k th) (Qi_ G (fun (r : Int32) (u : (MJ)) => (r = nI (hm b.1.1 b.1.2.1 b.1.2.2.1 b.1.2.2.2.1)) ∧ (okM b u)) (fun (u : (MJ)) => (MAW G mc b u (nI 0)))) := by
  obtain ⟨⟨hd, hLR, hKR, hL, hG⟩, hvs, hvh, hvb, hvl, ⟨rn, hrn, hrf⟩⟩ := id hv
  obtain ⟨hH, ⟨hty, hinp⟩, hHT⟩ := id hok
  have hmu := dm_mul hd
  refine (m_X5_home l G mc.1 mc.2 b.1.1 b.1.2.1 b.1.2.2.1 b.1.2.2.2.1 b.1.2.2.2.2.1 b.1.2.2.2.2.2 k.1 k.2.1 (gZ b.2.1) k.2.2.1 b.2.2.1 k.2.2.2.1 k.2.2.2.2.1 b.2.2.2.2.2.2.1 b.2.2.2.2.2.2.2.1 b.2.2.2.2.2.2.2.2 k.2.2.2.2.2.1 k.2.2.2.2.2.2.1 k.2.2.2.2.2.2.2.1 th k.2.2.2.2.2.2.2.2.1 k.2.2.2.2.2.2.2.2.2.1 k.2.2.2.2.2.2.2.2.2.2.1 k.2.2.2.2.2.2.2.2.2.2.2.1 k.2.2.2.2.2.2.2.2.2.2.2.2.1 k.2.2.2.2.2.2.2.2.2.2.2.2.2 (by first | assumption | omega) (by first | assumption | omega) (by first | assumption | omega)).mono (fun A a s o t h => ?_)
  obtain ⟨⟨r, tr1, e, hp, hB⟩, hF⟩ := h
  refine ⟨⟨r, (k.1, k.2.1, k.2.2.1, k.2.2.2.1, k.2.2.2.2.1, k.2.2.2.2.2.1, k.2.2.2.2.2.2.1, k.2.2.2.2.2.2.2.1, tr1, k.2.2.2.2.2.2.2.2.2.1, k.2.2.2.2.2.2.2.2.2.2.1, k.2.2.2.2.2.2.2.2.2.2.2.1, k.2.2.2.2.2.2.2.2.2.2.2.2.1, k.2.2.2.2.2.2.2.2.2.2.2.2.2), e, ⟨?_, ?_⟩, ?_⟩, hF⟩
  · exact hp
  · exact hok
  · exact hB
set_option maxHeartbeats 4000000 in
set_option maxRecDepth 100000 in
theorem m_X5_isWell__A (l : Launch) (G : GG) (mc : MAd) (b : AS) (k : MJ) (th : Int32) (hv : vA b) (hok : okM b k) : MM l G yX5_isWell cX5_isWell 1 (some .boolean) ⟨0, 0, 0, 0⟩ [.ref mc.1] (MAW G mc b k th) (Qi_ G (fun (r : Int32) (u : (MJ)) => (r = bI true) ∧ (okM b u)) (fun (u : (MJ)) => (MAW G mc b u (nI 0)))) := by
  obtain ⟨⟨hd, hLR, hKR, hL, hG⟩, hvs, hvh, hvb, hvl, ⟨rn, hrn, hrf⟩⟩ := id hv
  obtain ⟨hH, ⟨hty, hinp⟩, hHT⟩ := id hok
  have hmu := dm_mul hd
  refine (m_X5_isWell l G mc.1 mc.2 b.1.1 b.1.2.1 b.1.2.2.1 b.1.2.2.2.1 b.1.2.2.2.2.1 b.1.2.2.2.2.2 k.1 k.2.1 (gZ b.2.1) k.2.2.1 b.2.2.1 k.2.2.2.1 k.2.2.2.2.1 b.2.2.2.2.2.2.1 b.2.2.2.2.2.2.2.1 b.2.2.2.2.2.2.2.2 k.2.2.2.2.2.1 k.2.2.2.2.2.2.1 k.2.2.2.2.2.2.2.1 th k.2.2.2.2.2.2.2.2.1 k.2.2.2.2.2.2.2.2.2.1 k.2.2.2.2.2.2.2.2.2.2.1 k.2.2.2.2.2.2.2.2.2.2.2.1 k.2.2.2.2.2.2.2.2.2.2.2.2.1 k.2.2.2.2.2.2.2.2.2.2.2.2.2 ).mono (fun A a s o t h => ?_)
  obtain ⟨⟨r, _, e, hp, hB⟩, hF⟩ := h
  refine ⟨⟨r, (k.1, k.2.1, k.2.2.1, k.2.2.2.1, k.2.2.2.2.1, k.2.2.2.2.2.1, k.2.2.2.2.2.2.1, k.2.2.2.2.2.2.2.1, k.2.2.2.2.2.2.2.2.1, k.2.2.2.2.2.2.2.2.2.1, k.2.2.2.2.2.2.2.2.2.2.1, k.2.2.2.2.2.2.2.2.2.2.2.1, k.2.2.2.2.2.2.2.2.2.2.2.2.1, k.2.2.2.2.2.2.2.2.2.2.2.2.2), e, ⟨?_, ?_⟩, ?_⟩, hF⟩
  · exact hp
  · exact hok
  · exact hB
set_option maxHeartbeats 4000000 in
set_option maxRecDepth 100000 in
theorem m_X5_errorPosition__A (l : Launch) (G : GG) (mc : MAd) (b : AS) (k : MJ) (th : Int32) (hv : vA b) (hok : okM b k) : MM l G yX5_errorPosition cX5_errorPosition 1 (some .int) ⟨1, 0, 0, 21⟩ [.ref mc.1] (MAW G mc b k th) (Qi_ G (fun (r : Int32) (u : (MJ)) => (r = b.2.2.2.2.2.2.1) ∧ (okM b u)) (fun (u : (MJ)) => (MAW G mc b u (nI 0)))) := by
  obtain ⟨⟨hd, hLR, hKR, hL, hG⟩, hvs, hvh, hvb, hvl, ⟨rn, hrn, hrf⟩⟩ := id hv
  obtain ⟨hH, ⟨hty, hinp⟩, hHT⟩ := id hok
  have hmu := dm_mul hd
  refine (m_X5_errorPosition l G mc.1 mc.2 b.1.1 b.1.2.1 b.1.2.2.1 b.1.2.2.2.1 b.1.2.2.2.2.1 b.1.2.2.2.2.2 k.1 k.2.1 (gZ b.2.1) k.2.2.1 b.2.2.1 k.2.2.2.1 k.2.2.2.2.1 b.2.2.2.2.2.2.1 b.2.2.2.2.2.2.2.1 b.2.2.2.2.2.2.2.2 k.2.2.2.2.2.1 k.2.2.2.2.2.2.1 k.2.2.2.2.2.2.2.1 th k.2.2.2.2.2.2.2.2.1 k.2.2.2.2.2.2.2.2.2.1 k.2.2.2.2.2.2.2.2.2.2.1 k.2.2.2.2.2.2.2.2.2.2.2.1 k.2.2.2.2.2.2.2.2.2.2.2.2.1 k.2.2.2.2.2.2.2.2.2.2.2.2.2 ).mono (fun A a s o t h => ?_)
  obtain ⟨⟨r, _, e, hp, hB⟩, hF⟩ := h
  refine ⟨⟨r, (k.1, k.2.1, k.2.2.1, k.2.2.2.1, k.2.2.2.2.1, k.2.2.2.2.2.1, k.2.2.2.2.2.2.1, k.2.2.2.2.2.2.2.1, k.2.2.2.2.2.2.2.2.1, k.2.2.2.2.2.2.2.2.2.1, k.2.2.2.2.2.2.2.2.2.2.1, k.2.2.2.2.2.2.2.2.2.2.2.1, k.2.2.2.2.2.2.2.2.2.2.2.2.1, k.2.2.2.2.2.2.2.2.2.2.2.2.2), e, ⟨?_, ?_⟩, ?_⟩, hF⟩
  · exact hp
  · exact hok
  · exact hB
set_option maxHeartbeats 4000000 in
set_option maxRecDepth 100000 in
theorem m_X5_homeShare__A (l : Launch) (G : GG) (mc : MAd) (b : AS) (k : MJ) (th : Int32) (hv : vA b) (hok : okM b k) : MM l G yX5_homeShare cX5_homeShare 1 (some .float) ⟨3, 0, 0, 62⟩ [.ref mc.1] (MAW G mc b k th) (Qf_ G (fun (r : UInt32) (u : (MJ)) => (r = (FP.fdiv (FP.i2f (nI (hm b.1.1 b.1.2.1 b.1.2.2.1 b.1.2.2.2.1))) (FP.i2f (nI (b.1.1 * b.1.2.1))))) ∧ (okM b u)) (fun (u : (MJ)) => (MAW G mc b u (nI 0)))) := by
  obtain ⟨⟨hd, hLR, hKR, hL, hG⟩, hvs, hvh, hvb, hvl, ⟨rn, hrn, hrf⟩⟩ := id hv
  obtain ⟨hH, ⟨hty, hinp⟩, hHT⟩ := id hok
  have hmu := dm_mul hd
  refine (m_X5_homeShare l G mc.1 mc.2 b.1.1 b.1.2.1 b.1.2.2.1 b.1.2.2.2.1 b.1.2.2.2.2.1 b.1.2.2.2.2.2 k.1 k.2.1 (gZ b.2.1) k.2.2.1 b.2.2.1 k.2.2.2.1 k.2.2.2.2.1 b.2.2.2.2.2.2.1 b.2.2.2.2.2.2.2.1 b.2.2.2.2.2.2.2.2 k.2.2.2.2.2.1 k.2.2.2.2.2.2.1 k.2.2.2.2.2.2.2.1 th k.2.2.2.2.2.2.2.2.1 k.2.2.2.2.2.2.2.2.2.1 k.2.2.2.2.2.2.2.2.2.2.1 k.2.2.2.2.2.2.2.2.2.2.2.1 k.2.2.2.2.2.2.2.2.2.2.2.2.1 k.2.2.2.2.2.2.2.2.2.2.2.2.2 (by first | assumption | omega) (by first | assumption | omega) (by first | assumption | omega)).mono (fun A a s o t h => ?_)
  obtain ⟨⟨r, tr1, e, hp, hB⟩, hF⟩ := h
  refine ⟨⟨r, (k.1, k.2.1, k.2.2.1, k.2.2.2.1, k.2.2.2.2.1, k.2.2.2.2.2.1, k.2.2.2.2.2.2.1, k.2.2.2.2.2.2.2.1, tr1, k.2.2.2.2.2.2.2.2.2.1, k.2.2.2.2.2.2.2.2.2.2.1, k.2.2.2.2.2.2.2.2.2.2.2.1, k.2.2.2.2.2.2.2.2.2.2.2.2.1, k.2.2.2.2.2.2.2.2.2.2.2.2.2), e, ⟨?_, ?_⟩, ?_⟩, hF⟩
  · exact hp
  · exact hok
  · exact hB
set_option maxHeartbeats 4000000 in
set_option maxRecDepth 100000 in
theorem m_X5_text__A (l : Launch) (G : GG) (mc : MAd) (b : AS) (k : MJ) (th : Int32) (hv : vA b) (hok : okM b k) : MM l G yX5_text cX5_text 1 (some .int) ⟨2, 0, 0, 43⟩ [.ref mc.1] (MAW G mc b k th) (Qi_ G (fun (r : Int32) (u : (MJ)) => (r = nI ((txN b.1.2.1 b.1.2.2.1 (b.1.1 * b.1.2.1)).length)) ∧ (okM (liA b (txN b.1.2.1 b.1.2.2.1 (b.1.1 * b.1.2.1))) u)) (fun (u : (MJ)) => (MAW G mc (liA b (txN b.1.2.1 b.1.2.2.1 (b.1.1 * b.1.2.1))) u (nI 0)))) := by
  obtain ⟨⟨hd, hLR, hKR, hL, hG⟩, hvs, hvh, hvb, hvl, ⟨rn, hrn, hrf⟩⟩ := id hv
  obtain ⟨hH, ⟨hty, hinp⟩, hHT⟩ := id hok
  have hmu := dm_mul hd
  refine (m_X5_text l G mc.1 mc.2 b.1.1 b.1.2.1 b.1.2.2.1 b.1.2.2.2.1 b.1.2.2.2.2.1 b.1.2.2.2.2.2 k.1 k.2.1 (gZ b.2.1) k.2.2.1 b.2.2.1 k.2.2.2.1 k.2.2.2.2.1 b.2.2.2.2.2.2.1 b.2.2.2.2.2.2.2.1 b.2.2.2.2.2.2.2.2 k.2.2.2.2.2.1 k.2.2.2.2.2.2.1 k.2.2.2.2.2.2.2.1 th k.2.2.2.2.2.2.2.2.1 k.2.2.2.2.2.2.2.2.2.1 k.2.2.2.2.2.2.2.2.2.2.1 k.2.2.2.2.2.2.2.2.2.2.2.1 k.2.2.2.2.2.2.2.2.2.2.2.2.1 k.2.2.2.2.2.2.2.2.2.2.2.2.2 (by first | assumption | omega) (by first | assumption | omega)).mono (fun A a s o t h => ?_)
  obtain ⟨⟨r, ⟨lt1, ln1⟩, e, ⟨hp, hq9⟩, hB⟩, hF⟩ := h
  refine ⟨⟨r, (k.1, k.2.1, k.2.2.1, k.2.2.2.1, k.2.2.2.2.1, k.2.2.2.2.2.1, lt1, ln1, k.2.2.2.2.2.2.2.2.1, k.2.2.2.2.2.2.2.2.2.1, k.2.2.2.2.2.2.2.2.2.2.1, k.2.2.2.2.2.2.2.2.2.2.2.1, k.2.2.2.2.2.2.2.2.2.2.2.2.1, k.2.2.2.2.2.2.2.2.2.2.2.2.2), e, ⟨?_, ?_⟩, ?_⟩, hF⟩
  · exact hp
  · exact ⟨hH, ⟨hty, hinp⟩, hq9⟩
  · exact hB
set_option maxHeartbeats 4000000 in
set_option maxRecDepth 100000 in
theorem m_X5_goalText__A (l : Launch) (G : GG) (mc : MAd) (b : AS) (k : MJ) (th : Int32) (hv : vA b) (hok : okM b k) : MM l G yX5_goalText cX5_goalText 1 (some .int) ⟨2, 0, 0, 43⟩ [.ref mc.1] (MAW G mc b k th) (Qi_ G (fun (r : Int32) (u : (MJ)) => (r = nI ((txN b.1.2.1 b.1.2.2.2.1 (b.1.1 * b.1.2.1)).length)) ∧ (okM (liA b (txN b.1.2.1 b.1.2.2.2.1 (b.1.1 * b.1.2.1))) u)) (fun (u : (MJ)) => (MAW G mc (liA b (txN b.1.2.1 b.1.2.2.2.1 (b.1.1 * b.1.2.1))) u (nI 0)))) := by
  obtain ⟨⟨hd, hLR, hKR, hL, hG⟩, hvs, hvh, hvb, hvl, ⟨rn, hrn, hrf⟩⟩ := id hv
  obtain ⟨hH, ⟨hty, hinp⟩, hHT⟩ := id hok
  have hmu := dm_mul hd
  refine (m_X5_goalText l G mc.1 mc.2 b.1.1 b.1.2.1 b.1.2.2.1 b.1.2.2.2.1 b.1.2.2.2.2.1 b.1.2.2.2.2.2 k.1 k.2.1 (gZ b.2.1) k.2.2.1 b.2.2.1 k.2.2.2.1 k.2.2.2.2.1 b.2.2.2.2.2.2.1 b.2.2.2.2.2.2.2.1 b.2.2.2.2.2.2.2.2 k.2.2.2.2.2.1 k.2.2.2.2.2.2.1 k.2.2.2.2.2.2.2.1 th k.2.2.2.2.2.2.2.2.1 k.2.2.2.2.2.2.2.2.2.1 k.2.2.2.2.2.2.2.2.2.2.1 k.2.2.2.2.2.2.2.2.2.2.2.1 k.2.2.2.2.2.2.2.2.2.2.2.2.1 k.2.2.2.2.2.2.2.2.2.2.2.2.2 (by first | assumption | omega) (by first | assumption | omega)).mono (fun A a s o t h => ?_)
  obtain ⟨⟨r, ⟨lt1, ln1⟩, e, ⟨hp, hq9⟩, hB⟩, hF⟩ := h
  refine ⟨⟨r, (k.1, k.2.1, k.2.2.1, k.2.2.2.1, k.2.2.2.2.1, k.2.2.2.2.2.1, lt1, ln1, k.2.2.2.2.2.2.2.2.1, k.2.2.2.2.2.2.2.2.2.1, k.2.2.2.2.2.2.2.2.2.2.1, k.2.2.2.2.2.2.2.2.2.2.2.1, k.2.2.2.2.2.2.2.2.2.2.2.2.1, k.2.2.2.2.2.2.2.2.2.2.2.2.2), e, ⟨?_, ?_⟩, ?_⟩, hF⟩
  · exact hp
  · exact ⟨hH, ⟨hty, hinp⟩, hq9⟩
  · exact hB
set_option maxHeartbeats 4000000 in
set_option maxRecDepth 100000 in
theorem m_X5_save__A (l : Launch) (G : GG) (mc : MAd) (b : AS) (k : MJ) (th : Int32) (hv : vA b) (hok : okM b k) : MM l G yX5_save cX5_save 1 (some .int) ⟨3, 0, 0, 62⟩ [.ref mc.1] (MAW G mc b k th) (Qi_ G (fun (r : Int32) (u : (MJ)) => (r = nI (hm b.1.1 b.1.2.1 b.1.2.2.1 b.1.2.2.2.1)) ∧ (okM (svA b) u)) (fun (u : (MJ)) => (MAW G mc (svA b) u (nI 0)))) := by
  obtain ⟨⟨hd, hLR, hKR, hL, hG⟩, hvs, hvh, hvb, hvl, ⟨rn, hrn, hrf⟩⟩ := id hv
  obtain ⟨hH, ⟨hty, hinp⟩, hHT⟩ := id hok
  have hmu := dm_mul hd
  refine (m_X5_save l G mc.1 mc.2 b.1.1 b.1.2.1 b.1.2.2.1 b.1.2.2.2.1 b.1.2.2.2.2.1 b.1.2.2.2.2.2 k.1 k.2.1 (gZ b.2.1) k.2.2.1 b.2.2.1 k.2.2.2.1 k.2.2.2.2.1 b.2.2.2.2.2.2.1 b.2.2.2.2.2.2.2.1 b.2.2.2.2.2.2.2.2 k.2.2.2.2.2.1 k.2.2.2.2.2.2.1 k.2.2.2.2.2.2.2.1 th k.2.2.2.2.2.2.2.2.1 k.2.2.2.2.2.2.2.2.2.1 k.2.2.2.2.2.2.2.2.2.2.1 k.2.2.2.2.2.2.2.2.2.2.2.1 k.2.2.2.2.2.2.2.2.2.2.2.2.1 k.2.2.2.2.2.2.2.2.2.2.2.2.2 (by first | assumption | omega) (by first | assumption | omega) (by first | assumption | omega)).mono (fun A a s o t h => ?_)
  obtain ⟨⟨r, tr1, e, hp, hB⟩, hF⟩ := h
  refine ⟨⟨r, (k.1, k.2.1, k.2.2.1, k.2.2.2.1, k.2.2.2.2.1, k.2.2.2.2.2.1, k.2.2.2.2.2.2.1, k.2.2.2.2.2.2.2.1, tr1, k.2.2.2.2.2.2.2.2.2.1, k.2.2.2.2.2.2.2.2.2.2.1, k.2.2.2.2.2.2.2.2.2.2.2.1, k.2.2.2.2.2.2.2.2.2.2.2.2.1, k.2.2.2.2.2.2.2.2.2.2.2.2.2), e, ⟨?_, ?_⟩, ?_⟩, hF⟩
  · exact hp
  · exact ⟨hH, ⟨hty, hinp⟩, hHT⟩
  · exact hB
set_option maxHeartbeats 4000000 in
set_option maxRecDepth 100000 in
theorem m_X5_singing__A (l : Launch) (G : GG) (mc : MAd) (b : AS) (k : MJ) (th : Int32) (hv : vA b) (hok : okM b k) : MM l G yX5_singing cX5_singing 3 (some .int) ⟨4, 0, 0, 90⟩ [.ref mc.1] (MAW G mc b k th) (Qi_ G (fun (r : Int32) (u : (MJ)) => (r = nI (cn (snN b.1.1 b.1.2.1 b.1.2.2.1) (b.1.1 + b.1.2.1))) ∧ (okM b u)) (fun (u : (MJ)) => (MAW G mc b u (nI 0)))) := by
  obtain ⟨⟨hd, hLR, hKR, hL, hG⟩, hvs, hvh, hvb, hvl, ⟨rn, hrn, hrf⟩⟩ := id hv
  obtain ⟨hH, ⟨hty, hinp⟩, hHT⟩ := id hok
  have hmu := dm_mul hd
  refine (m_X5_singing l G mc.1 mc.2 b.1.1 b.1.2.1 b.1.2.2.1 b.1.2.2.2.1 b.1.2.2.2.2.1 b.1.2.2.2.2.2 k.1 k.2.1 (gZ b.2.1) k.2.2.1 b.2.2.1 k.2.2.2.1 k.2.2.2.2.1 b.2.2.2.2.2.2.1 b.2.2.2.2.2.2.2.1 b.2.2.2.2.2.2.2.2 k.2.2.2.2.2.1 k.2.2.2.2.2.2.1 k.2.2.2.2.2.2.2.1 th k.2.2.2.2.2.2.2.2.1 k.2.2.2.2.2.2.2.2.2.1 k.2.2.2.2.2.2.2.2.2.2.1 k.2.2.2.2.2.2.2.2.2.2.2.1 k.2.2.2.2.2.2.2.2.2.2.2.2.1 k.2.2.2.2.2.2.2.2.2.2.2.2.2 (by first | assumption | omega) (by first | assumption | omega)).mono (fun A a s o t h => ?_)
  obtain ⟨⟨r, _, e, hp, hB⟩, hF⟩ := h
  refine ⟨⟨r, (k.1, k.2.1, k.2.2.1, k.2.2.2.1, k.2.2.2.2.1, k.2.2.2.2.2.1, k.2.2.2.2.2.2.1, k.2.2.2.2.2.2.2.1, k.2.2.2.2.2.2.2.2.1, k.2.2.2.2.2.2.2.2.2.1, k.2.2.2.2.2.2.2.2.2.2.1, k.2.2.2.2.2.2.2.2.2.2.2.1, k.2.2.2.2.2.2.2.2.2.2.2.2.1, k.2.2.2.2.2.2.2.2.2.2.2.2.2), e, ⟨?_, ?_⟩, ?_⟩, hF⟩
  · exact hp
  · exact hok
  · exact hB
theorem bar_d {z : ZT} {x : Int32} : bI (decide ((oBar z x).2.2.1 = nI 1)) = (oBar z x).2.2.1 := by
  obtain ⟨b, e⟩ := bar_v (z := z) (x := x)
  rw [e]; cases b <;> rfl
set_option maxHeartbeats 4000000 in
set_option maxRecDepth 100000 in
theorem m_X5_bar__A (l : Launch) (G : GG) (mc : MAd) (b : AS) (k : MJ) (th : Int32) (p0 : Int32) (hv : vA b) (hok : okM b k) : MM l G yX5_bar cX5_bar 2 (some .boolean) ⟨3, 0, 0, 64⟩ [.ref mc.1, .int p0] (MAW G mc b k th) (Qi_ G (fun (r : Int32) (u : (MJ)) => (r = (qO b (oBar b.1 p0)).2.1) ∧ (okM (qO b (oBar b.1 p0)).2.2 u)) (fun (u : (MJ)) => (MAW G mc ((qO b (oBar b.1 p0)).2.2) u (nI (qO b (oBar b.1 p0)).1)))) := by
  obtain ⟨⟨hd, hLR, hKR, hL, hG⟩, hvs, hvh, hvb, hvl, ⟨rn, hrn, hrf⟩⟩ := id hv
  obtain ⟨hH, ⟨hty, hinp⟩, hHT⟩ := id hok
  have hmu := dm_mul hd
  refine (m_X5_bar l G mc.1 mc.2 b.1.1 b.1.2.1 b.1.2.2.1 b.1.2.2.2.1 b.1.2.2.2.2.1 b.1.2.2.2.2.2 k.1 k.2.1 (gZ b.2.1) k.2.2.1 b.2.2.1 k.2.2.2.1 k.2.2.2.2.1 b.2.2.2.2.2.2.1 b.2.2.2.2.2.2.2.1 b.2.2.2.2.2.2.2.2 k.2.2.2.2.2.1 k.2.2.2.2.2.2.1 k.2.2.2.2.2.2.2.1 th k.2.2.2.2.2.2.2.2.1 k.2.2.2.2.2.2.2.2.2.1 k.2.2.2.2.2.2.2.2.2.2.1 k.2.2.2.2.2.2.2.2.2.2.2.1 k.2.2.2.2.2.2.2.2.2.2.2.2.1 k.2.2.2.2.2.2.2.2.2.2.2.2.2 p0 b.2.2.2.1 (by first | assumption | omega) (by first | assumption | omega)).mono (fun A a s o t h => ?_)
  obtain ⟨⟨r, ⟨hi1, ch1⟩, e, ⟨hp, hq9⟩, hB⟩, hF⟩ := h
  refine ⟨⟨r, ((gZ (b.1.1, b.1.2.1, b.1.2.2.1, b.1.2.2.2.1, b.1.2.2.2.2.1, b.1.2.2.2.2.2)), hi1, ch1, k.2.2.2.1, k.2.2.2.2.1, (oRf (oBar (b.1.1, b.1.2.1, b.1.2.2.1, b.1.2.2.2.1, b.1.2.2.2.2.1, b.1.2.2.2.2.2) p0) k.2.2.2.2.2.1), k.2.2.2.2.2.2.1, k.2.2.2.2.2.2.2.1, k.2.2.2.2.2.2.2.2.1, k.2.2.2.2.2.2.2.2.2.1, k.2.2.2.2.2.2.2.2.2.2.1, k.2.2.2.2.2.2.2.2.2.2.2.1, k.2.2.2.2.2.2.2.2.2.2.2.2.1, k.2.2.2.2.2.2.2.2.2.2.2.2.2), e, ⟨?_, ?_⟩, ?_⟩, hF⟩
  · rw [hp]; exact bar_d
  · rw [show (qO b (oBar b.1 p0)).2.2 = _ from asO_eq (ok_bar _ _)]; exact ⟨hq9, ⟨hty, hinp⟩, hHT⟩
  · rw [show (qO b (oBar b.1 p0)).2.2 = _ from asO_eq (ok_bar _ _)]; exact hB
set_option maxHeartbeats 4000000 in
set_option maxRecDepth 100000 in
theorem m_X5_thrown__A (l : Launch) (G : GG) (mc : MAd) (b : AS) (k : MJ) (th : Int32) (hv : vA b) (hok : okM b k) : MM l G yX5_thrown cX5_thrown 1 (some .int) ⟨0, 0, 0, 0⟩ [.ref mc.1] (MAW G mc b k th) (Qi_ G (fun (r : Int32) (u : (MJ)) => (r = th) ∧ (okM b u)) (fun (u : (MJ)) => (MAW G mc b u th))) := by
  obtain ⟨⟨hd, hLR, hKR, hL, hG⟩, hvs, hvh, hvb, hvl, ⟨rn, hrn, hrf⟩⟩ := id hv
  obtain ⟨hH, ⟨hty, hinp⟩, hHT⟩ := id hok
  have hmu := dm_mul hd
  refine (m_X5_thrown l G mc.1 mc.2 b.1.1 b.1.2.1 b.1.2.2.1 b.1.2.2.2.1 b.1.2.2.2.2.1 b.1.2.2.2.2.2 k.1 k.2.1 (gZ b.2.1) k.2.2.1 b.2.2.1 k.2.2.2.1 k.2.2.2.2.1 b.2.2.2.2.2.2.1 b.2.2.2.2.2.2.2.1 b.2.2.2.2.2.2.2.2 k.2.2.2.2.2.1 k.2.2.2.2.2.2.1 k.2.2.2.2.2.2.2.1 th k.2.2.2.2.2.2.2.2.1 k.2.2.2.2.2.2.2.2.2.1 k.2.2.2.2.2.2.2.2.2.2.1 k.2.2.2.2.2.2.2.2.2.2.2.1 k.2.2.2.2.2.2.2.2.2.2.2.2.1 k.2.2.2.2.2.2.2.2.2.2.2.2.2 ).mono (fun A a s o t h => ?_)
  obtain ⟨⟨r, _, e, hp, hB⟩, hF⟩ := h
  refine ⟨⟨r, (k.1, k.2.1, k.2.2.1, k.2.2.2.1, k.2.2.2.2.1, k.2.2.2.2.2.1, k.2.2.2.2.2.2.1, k.2.2.2.2.2.2.2.1, k.2.2.2.2.2.2.2.2.1, k.2.2.2.2.2.2.2.2.2.1, k.2.2.2.2.2.2.2.2.2.2.1, k.2.2.2.2.2.2.2.2.2.2.2.1, k.2.2.2.2.2.2.2.2.2.2.2.2.1, k.2.2.2.2.2.2.2.2.2.2.2.2.2), e, ⟨?_, ?_⟩, ?_⟩, hF⟩
  · exact hp
  · exact hok
  · exact hB
