/-- whether an order's numbers are right -/
def rgO (nr nc : Nat) (o : ORD) : Bool := if o.1 = nI 98 then (decide (nI 2 ≤ o.2.1 ∧ o.2.1 ≤ nI 3) && decide (nI 2 ≤ o.2.2 ∧ o.2.2 ≤ nI 3)) else if o.1 = nI 115 then (isIx o.2.1 (nr * nc) && isIx o.2.2 (nr * nc)) else if o.1 = nI 112 then isIx o.2.1 (nr * nc) else if o.1 = nI 103 then isIx o.2.1 (nr * nc) else if o.1 = nI 116 then isIx o.2.1 (2 * (nr + nc)) else if o.1 = nI 120 then isIx o.2.1 (nr + nc) else (decide (nI 0 ≤ o.2.1 ∧ o.2.1 ≤ nI 999) && decide (nI 1 ≤ o.2.2 ∧ o.2.2 ≤ nI 9))
section RG
variable {nr nc : Nat} {o : ORD}
theorem rg_b (h : o.1 = nI 98) : rgO nr nc o = (decide (nI 2 ≤ o.2.1 ∧ o.2.1 ≤ nI 3) && decide (nI 2 ≤ o.2.2 ∧ o.2.2 ≤ nI 3)) := by unfold rgO; rw [if_pos h]
theorem rg_s (h : o.1 = nI 115) : rgO nr nc o = (isIx o.2.1 (nr * nc) && isIx o.2.2 (nr * nc)) := by unfold rgO; rw [if_neg (by rw [h]; decide), if_pos h]
theorem rg_p (h : o.1 = nI 112) : rgO nr nc o = isIx o.2.1 (nr * nc) := by unfold rgO; rw [if_neg (by rw [h]; decide), if_neg (by rw [h]; decide), if_pos h]
theorem rg_g (h : o.1 = nI 103) : rgO nr nc o = isIx o.2.1 (nr * nc) := by unfold rgO; rw [if_neg (by rw [h]; decide), if_neg (by rw [h]; decide), if_neg (by rw [h]; decide), if_pos h]
theorem rg_t (h : o.1 = nI 116) : rgO nr nc o = isIx o.2.1 (2 * (nr + nc)) := by unfold rgO; rw [if_neg (by rw [h]; decide), if_neg (by rw [h]; decide), if_neg (by rw [h]; decide), if_neg (by rw [h]; decide), if_pos h]
theorem rg_x (h : o.1 = nI 120) : rgO nr nc o = isIx o.2.1 (nr + nc) := by unfold rgO; rw [if_neg (by rw [h]; decide), if_neg (by rw [h]; decide), if_neg (by rw [h]; decide), if_neg (by rw [h]; decide), if_neg (by rw [h]; decide), if_pos h]
theorem rg_r (h1 : ¬ o.1 = nI 98) (h2 : ¬ o.1 = nI 115) (h3 : ¬ o.1 = nI 112) (h4 : ¬ o.1 = nI 103) (h5 : ¬ o.1 = nI 116) (h6 : ¬ o.1 = nI 120) : rgO nr nc o = (decide (nI 0 ≤ o.2.1 ∧ o.2.1 ≤ nI 999) && decide (nI 1 ≤ o.2.2 ∧ o.2.2 ≤ nI 9)) := by unfold rgO; rw [if_neg h1, if_neg h2, if_neg h3, if_neg h4, if_neg h5, if_neg h6]
/-- the letters that an order may have -/
def isL7 (o : ORD) : Prop := o.1 = nI 98 ∨ o.1 = nI 115 ∨ o.1 = nI 112 ∨ o.1 = nI 103 ∨ o.1 = nI 116 ∨ o.1 = nI 120 ∨ o.1 = nI 114
theorem L7_r (h : isL7 o) (h1 : ¬ o.1 = nI 98) (h2 : ¬ o.1 = nI 115) (h3 : ¬ o.1 = nI 112) (h4 : ¬ o.1 = nI 103) (h5 : ¬ o.1 = nI 116) (h6 : ¬ o.1 = nI 120) : o.1 = nI 114 := by
  unfold isL7 at h; simp only [h1, h2, h3, h4, h5, h6, false_or] at h; exact h
end RG
set_option maxHeartbeats 4000000 in
set_option maxRecDepth 100000 in
theorem m_X4_told (l : Launch) (G : GG) (rh : Nat) (rd : Nat → Nat) (sh : Nat) (at9 : Nat) (mn9 : Nat) (lt9 : Nat → Nat) (nu9 : Nat → Nat) (sg9 : Nat → Nat) (i : Nat) (kk : Nat) (hi6 : i < 60) (hkk : kk ≤ 1) : MM l G yX4_told cX4_told 3 (some .int) ⟨0, 0, 0, 0⟩ [.ref rh, .int (nI i), .int (nI kk)] (RDW G rh rd sh at9 mn9 lt9 nu9 sg9) (Qi_ G (fun (r : Int32) (_ : Unit) => r = nI (nu9 (2 * i + kk))) (fun (_ : Unit) => (RDW G rh rd sh at9 mn9 lt9 nu9 sg9))) := by
  refine MM.of (by decide) (Nat.le_of_ble_eq_true rfl) ?_
  intro p e s m args below meth cd A C hini hA hK hZ hP hD ls hl
  generalize hQ : MQ below ((Qi_ G (fun (r : Int32) (_ : Unit) => r = nI (nu9 (2 * i + kk))) (fun (_ : Unit) => (RDW G rh rd sh at9 mn9 lt9 nu9 sg9))) A) args s (⟨0, 0, 0, 0⟩ : Room).cells (⟨0, 0, 0, 0⟩ : Room).slots A = Q
  obtain ⟨hx, hb, hr, hts, hown, hlk, hml⟩ := C
  have hown : s.vm.findClass RX4 = some m.cls := hown
  have hS : va_S A s.heap s.heap [] := va_S.rf
  have hl : lv_has ls 3 [(0, .ref rh), (1, .int (nI i)), (2, .int (nI kk))] := hl
  refine lv_aload_n hx hb dX4_told_0 rfl (lv_at hl 0 rfl) ?_
  refine va_get (D := G.1) (ci := 3) (v := .ref (rd 1)) (C := RX4) (T := TX4) (N := 6) hx hb hts in_X4 hown hK hP 0 rfl rfl 4 (by decide) (hts _ q278) (fun _ h9 => h9) rfl dX4_told_1 ?_
  refine lv_iconst (v := nI 2) hx hb dX4_told_4 (by decide) ?_
  refine lv_iload_n hx hb dX4_told_5 rfl (lv_at hl 1 rfl) ?_
  refine n_imul hx hb dX4_told_6 ?_
  refine lv_iload_n hx hb dX4_told_7 rfl (lv_at hl 2 rfl) ?_
  refine n_iadd hx hb dX4_told_8 ?_
  refine n_iald hx hb hK hP 2 3 rfl rfl (by omega) (by decide) dX4_told_9 ?_
  subst hQ
  exact ret_i hx hb hr hlk () (congrArg nI (by omega)) hP hD hS rfl dX4_told_10
set_option maxHeartbeats 4000000 in
set_option maxRecDepth 100000 in
theorem m_X4_isRight (l : Launch) (G : GG) (rh : Nat) (rd : Nat → Nat) (sh : Nat) (at9 : Nat) (mn9 : Nat) (lt9 : Nat → Nat) (nu9 : Nat → Nat) (sg9 : Nat → Nat) (ph : Nat) (pd : Nat → Nat) (nr : Nat) (nc : Nat) (pL : Nat → Nat) (pG : Nat → Nat) (pB : Nat → Bool) (pk : Nat → Int32) (pa : Nat → Nat) (pt : Nat → Nat) (pm : Nat) (i : Nat) (o : ORD) (hd : 2 ≤ nr ∧ nr ≤ 3 ∧ 2 ≤ nc ∧ nc ≤ 3) (hi6 : i < 60) (hH : HoldR lt9 nu9 sg9 i o) (h7 : isL7 o) : MM l G yX4_isRight cX4_isRight 5 (some .boolean) ⟨3, 0, 0, 61⟩ [.ref rh, .ref ph, .int (nI i)] (RDW G rh rd sh at9 mn9 lt9 nu9 sg9 ++ PW G ph pd nr nc pL pG pB pk pa pt pm) (Qi_ G (fun (r : Int32) (_ : Unit) => r = bI (rgO nr nc o)) (fun (_ : Unit) => (RDW G rh rd sh at9 mn9 lt9 nu9 sg9 ++ PW G ph pd nr nc pL pG pB pk pa pt pm))) := by
  refine MM.of (by decide) (Nat.le_of_ble_eq_true rfl) ?_
  intro p e s m args below meth cd A C hini hA hK hZ hP hD ls hl
  generalize hQ : MQ below ((Qi_ G (fun (r : Int32) (_ : Unit) => r = bI (rgO nr nc o)) (fun (_ : Unit) => (RDW G rh rd sh at9 mn9 lt9 nu9 sg9 ++ PW G ph pd nr nc pL pG pB pk pa pt pm))) A) args s (⟨3, 0, 0, 61⟩ : Room).cells (⟨3, 0, 0, 61⟩ : Room).slots A = Q
  obtain ⟨hx, hb, hr, hts, hown, hlk, hml⟩ := C
  have hown : s.vm.findClass RX4 = some m.cls := hown
  have hS : va_S A s.heap s.heap [] := va_S.rf
  have hl : lv_has ls 5 [(0, .ref rh), (1, .ref ph), (2, .int (nI i))] := hl
  have hmu := dm_mul hd
  obtain ⟨g1, g2, g3, g4, g5, g6⟩ := id hH
  have g3 : nI (nu9 (2 * i + 0)) = o.2.1 := g3
  refine lv_aload_n hx hb dX4_isRight_0 rfl (lv_at hl 0 rfl) ?_
  refine lv_iload_n hx hb dX4_isRight_1 rfl (lv_at hl 2 rfl) ?_
  refine lv_iconst (v := nI 0) hx hb dX4_isRight_2 (by decide) ?_
  refine callVi (As := [.int (nI i), .int (nI 0)]) (rest := []) (wc := (RDW G rh rd sh at9 mn9 lt9 nu9 sg9)) (wr := (PW G ph pd nr nc pL pG pB pk pa pt pm)) ⟨hx, hb, hml, hown, hts⟩ (m_X4_told l G rh rd sh at9 mn9 lt9 nu9 sg9 i 0 (by first | assumption | omega) (by first | assumption | omega)) (cwV 2 hts (lw_V q1608 q1610 qs32 q97 q1611) rfl rfl rfl (by decide +kernel) ⟨Nat.le_of_ble_eq_true rfl, Nat.le_of_ble_eq_true rfl⟩) hK hZ hA hP hD hS [0, 1, 2, 3] [4, 5, 6, 7, 8, 9] rfl rfl (by decide) (by decide) (by decide) 0 3 rfl rfl rfl hl.1 (Nat.le_of_ble_eq_true rfl) ⟨Nat.le_of_ble_eq_true rfl, Nat.le_of_ble_eq_true rfl⟩ rfl dX4_isRight_3 (fun r9 u9 H locs hw9 hP hD hS => ?_)
  subst hw9
  obtain ⟨hP, hD⟩ := re_PD (w := (RDW G rh rd sh at9 mn9 lt9 nu9 sg9 ++ PW G ph pd nr nc pL pG pB pk pa pt pm)) hP hD [6, 7, 8, 9, 0, 1, 2, 3, 4, 5] (by decide) rfl
  refine lv_istore_n (lv' := [(3, .int (nI (nu9 (2 * i + 0)))), (0, .ref rh), (1, .ref ph), (2, .int (nI i))]) hx hb dX4_isRight_6 rfl hl (by decide) rfl (fun ls hl => ?_)
  refine lv_aload_n hx hb dX4_isRight_7 rfl (lv_at hl 1 rfl) ?_
  refine lv_iload_n hx hb dX4_isRight_8 rfl (lv_at hl 3 rfl) ?_
  refine lv_iconst (v := nI 1) hx hb dX4_isRight_9 (by decide) ?_
  refine callVi (As := [.int (nI i), .int (nI 1)]) (rest := []) (wc := (RDW G rh rd sh at9 mn9 lt9 nu9 sg9)) (wr := (PW G ph pd nr nc pL pG pB pk pa pt pm)) ⟨hx, hb, hml, hown, hts⟩ (m_X4_told l G rh rd sh at9 mn9 lt9 nu9 sg9 i 1 (by first | assumption | omega) (by first | assumption | omega)) (cwV 2 hts (lw_V q1608 q1610 qs32 q97 q1611) rfl rfl rfl (by decide +kernel) ⟨Nat.le_of_ble_eq_true rfl, Nat.le_of_ble_eq_true rfl⟩) hK hZ hA hP hD hS [0, 1, 2, 3] [4, 5, 6, 7, 8, 9] rfl rfl (by decide) (by decide) (by decide) 0 3 rfl rfl rfl hl.1 (Nat.le_of_ble_eq_true rfl) ⟨Nat.le_of_ble_eq_true rfl, Nat.le_of_ble_eq_true rfl⟩ rfl dX4_isRight_10 (fun r9 u9 H locs hw9 hP hD hS => ?_)
  subst hw9
  obtain ⟨hP, hD⟩ := re_PD (w := (RDW G rh rd sh at9 mn9 lt9 nu9 sg9 ++ PW G ph pd nr nc pL pG pB pk pa pt pm)) hP hD [6, 7, 8, 9, 0, 1, 2, 3, 4, 5] (by decide) rfl
  refine lv_istore (lv' := [(4, .int (nI (nu9 (2 * i + 1)))), (3, .int (nI (nu9 (2 * i + 0)))), (0, .ref rh), (1, .ref ph), (2, .int (nI i))]) hx hb dX4_isRight_13 hl (by decide) rfl (fun ls hl => ?_)
  refine lv_aload_n hx hb dX4_isRight_15 rfl (lv_at hl 2 rfl) ?_
  refine va_get (D := G.1) (ci := 3) (v := .ref (rd 0)) (C := RX4) (T := TX4) (N := 6) hx hb hts in_X4 hown hK hP 0 rfl rfl 3 (by decide) (hts _ q277) (fun _ h9 => h9) rfl dX4_isRight_16 ?_
  refine lv_iload_n hx hb dX4_isRight_19 rfl (lv_at hl 4 rfl) ?_
  refine n_cald hx hb hK hP 1 2 rfl rfl (by omega) (by decide) dX4_isRight_20 ?_
  by_cases k21_98 : nI (lt9 i) = nI 98
  · skip
    refine lv_lookup (off := 59) (tgt := 80) hx hb dX4_isRight_21 (by decide) (by rw [k21_98]; decide) (by decide) ?_
    refine lv_iload_n hx hb dX4_isRight_80 rfl (lv_at hl 1 rfl) ?_
    refine lv_iload hx hb dX4_isRight_81 (lv_at hl 0 rfl) ?_
    refine callSNi (As := [.int (nI (nu9 (2 * i + 0))), .int (nI (nu9 (2 * i + 1)))]) (rest := []) (wc := ([] : va_W)) (wr := (RDW G rh rd sh at9 mn9 lt9 nu9 sg9 ++ PW G ph pd nr nc pL pG pB pk pa pt pm)) ⟨hx, hb, hml, hown, hts⟩ (m_X1_isBoard l G (nI (nu9 (2 * i + 0))) (nI (nu9 (2 * i + 1))) ) (va_cnB 2 hts (lw_meth q1112) rfl rfl rfl (KS.nw hZ q1612 rfl) (hts _ q88) (by decide +kernel) ⟨Nat.le_of_ble_eq_true rfl, Nat.le_of_ble_eq_true rfl⟩) (hts _ q1111) hK hZ hA hP hD hS [] [0, 1, 2, 3, 4, 5, 6, 7, 8, 9] rfl rfl (by decide) (by decide) (by decide) rfl hl.1 (Nat.le_of_ble_eq_true rfl) ⟨Nat.le_of_ble_eq_true rfl, Nat.le_of_ble_eq_true rfl⟩ rfl dX4_isRight_83 (fun r9 u9 H locs hw9 hP hD hS => ?_)
    subst hw9
    have hP : va_P G.1 CL (RDW G rh rd sh at9 mn9 lt9 nu9 sg9 ++ PW G ph pd nr nc pL pG pB pk pa pt pm) _ := hP
    have hD : va_D A (RDW G rh rd sh at9 mn9 lt9 nu9 sg9 ++ PW G ph pd nr nc pL pG pB pk pa pt pm) := hD
    subst hQ
    exact ret_i hx hb hr hlk () (congrArg bI (by rw [rg_b (g1.symm.trans k21_98), ← g3, ← (g5 (Or.inl (g1.symm.trans k21_98))).1])) hP hD hS (bI_nar _) dX4_isRight_86
  · skip
    by_cases k21_103 : nI (lt9 i) = nI 103
    · skip
      refine lv_lookup (off := 89) (tgt := 110) hx hb dX4_isRight_21 (by decide) (by rw [k21_103]; decide) (by decide) ?_
      refine lv_aload_n hx hb dX4_isRight_110 rfl (lv_at hl 3 rfl) ?_
      refine lv_iload_n hx hb dX4_isRight_111 rfl (lv_at hl 1 rfl) ?_
      refine callVi (As := [.int (nI (nu9 (2 * i + 0)))]) (rest := []) (wc := (PW G ph pd nr nc pL pG pB pk pa pt pm)) (wr := (RDW G rh rd sh at9 mn9 lt9 nu9 sg9)) ⟨hx, hb, hml, hown, hts⟩ (m_X2_isPlace l G ph pd nr nc pL pG pB pk pa pt pm (nI (nu9 (2 * i + 0))) (by first | assumption | omega)) (cwV 1 hts (lw_V q1613 q1185 q1186 q89 q1187) rfl rfl rfl (by decide +kernel) ⟨Nat.le_of_ble_eq_true rfl, Nat.le_of_ble_eq_true rfl⟩) hK hZ hA hP hD hS [4, 5, 6, 7, 8, 9] [0, 1, 2, 3] rfl rfl (by decide) (by decide) (by decide) 0 1 rfl rfl rfl hl.1 (Nat.le_of_ble_eq_true rfl) ⟨Nat.le_of_ble_eq_true rfl, Nat.le_of_ble_eq_true rfl⟩ rfl dX4_isRight_112 (fun r9 u9 H locs hw9 hP hD hS => ?_)
      subst hw9
      have hP : va_P G.1 CL (RDW G rh rd sh at9 mn9 lt9 nu9 sg9 ++ PW G ph pd nr nc pL pG pB pk pa pt pm) _ := hP
      have hD : va_D A (RDW G rh rd sh at9 mn9 lt9 nu9 sg9 ++ PW G ph pd nr nc pL pG pB pk pa pt pm) := hD
      subst hQ
      exact ret_i hx hb hr hlk () (congrArg bI (by first | rw [rg_g (g1.symm.trans k21_103), ← g3] | rw [rg_p (g1.symm.trans k21_112), ← g3])) hP hD hS (bI_nar _) dX4_isRight_115
    · skip
      by_cases k21_112 : nI (lt9 i) = nI 112
      · skip
        refine lv_lookup (off := 89) (tgt := 110) hx hb dX4_isRight_21 (by decide) (by rw [k21_112]; decide) (by decide) ?_
        refine lv_aload_n hx hb dX4_isRight_110 rfl (lv_at hl 3 rfl) ?_
        refine lv_iload_n hx hb dX4_isRight_111 rfl (lv_at hl 1 rfl) ?_
        refine callVi (As := [.int (nI (nu9 (2 * i + 0)))]) (rest := []) (wc := (PW G ph pd nr nc pL pG pB pk pa pt pm)) (wr := (RDW G rh rd sh at9 mn9 lt9 nu9 sg9)) ⟨hx, hb, hml, hown, hts⟩ (m_X2_isPlace l G ph pd nr nc pL pG pB pk pa pt pm (nI (nu9 (2 * i + 0))) (by first | assumption | omega)) (cwV 1 hts (lw_V q1613 q1185 q1186 q89 q1187) rfl rfl rfl (by decide +kernel) ⟨Nat.le_of_ble_eq_true rfl, Nat.le_of_ble_eq_true rfl⟩) hK hZ hA hP hD hS [4, 5, 6, 7, 8, 9] [0, 1, 2, 3] rfl rfl (by decide) (by decide) (by decide) 0 1 rfl rfl rfl hl.1 (Nat.le_of_ble_eq_true rfl) ⟨Nat.le_of_ble_eq_true rfl, Nat.le_of_ble_eq_true rfl⟩ rfl dX4_isRight_112 (fun r9 u9 H locs hw9 hP hD hS => ?_)
        subst hw9
        have hP : va_P G.1 CL (RDW G rh rd sh at9 mn9 lt9 nu9 sg9 ++ PW G ph pd nr nc pL pG pB pk pa pt pm) _ := hP
        have hD : va_D A (RDW G rh rd sh at9 mn9 lt9 nu9 sg9 ++ PW G ph pd nr nc pL pG pB pk pa pt pm) := hD
        subst hQ
        exact ret_i hx hb hr hlk () (congrArg bI (by first | rw [rg_g (g1.symm.trans k21_103), ← g3] | rw [rg_p (g1.symm.trans k21_112), ← g3])) hP hD hS (bI_nar _) dX4_isRight_115
      · skip
        by_cases k21_115 : nI (lt9 i) = nI 115
        · skip
          refine lv_lookup (off := 66) (tgt := 87) hx hb dX4_isRight_21 (by decide) (by rw [k21_115]; decide) (by decide) ?_
          refine lv_aload_n hx hb dX4_isRight_87 rfl (lv_at hl 3 rfl) ?_
          refine lv_iload_n hx hb dX4_isRight_88 rfl (lv_at hl 1 rfl) ?_
          refine callVi (As := [.int (nI (nu9 (2 * i + 0)))]) (rest := []) (wc := (PW G ph pd nr nc pL pG pB pk pa pt pm)) (wr := (RDW G rh rd sh at9 mn9 lt9 nu9 sg9)) ⟨hx, hb, hml, hown, hts⟩ (m_X2_isPlace l G ph pd nr nc pL pG pB pk pa pt pm (nI (nu9 (2 * i + 0))) (by first | assumption | omega)) (cwV 1 hts (lw_V q1613 q1185 q1186 q89 q1187) rfl rfl rfl (by decide +kernel) ⟨Nat.le_of_ble_eq_true rfl, Nat.le_of_ble_eq_true rfl⟩) hK hZ hA hP hD hS [4, 5, 6, 7, 8, 9] [0, 1, 2, 3] rfl rfl (by decide) (by decide) (by decide) 0 1 rfl rfl rfl hl.1 (Nat.le_of_ble_eq_true rfl) ⟨Nat.le_of_ble_eq_true rfl, Nat.le_of_ble_eq_true rfl⟩ rfl dX4_isRight_89 (fun r9 u9 H locs hw9 hP hD hS => ?_)
          subst hw9
          have hP : va_P G.1 CL (RDW G rh rd sh at9 mn9 lt9 nu9 sg9 ++ PW G ph pd nr nc pL pG pB pk pa pt pm) _ := hP
          have hD : va_D A (RDW G rh rd sh at9 mn9 lt9 nu9 sg9 ++ PW G ph pd nr nc pL pG pB pk pa pt pm) := hD
          refine b_if_eq (tgt := 108) hx hb dX4_isRight_92 (by decide) (fun c92 => ?_) (fun c92 => ?_)
          · skip
            refine lv_iconst (v := nI 0) hx hb dX4_isRight_108 (by decide) ?_
            subst hQ
            exact ret_i hx hb hr hlk () (bI_0 (by rw [rg_s (g1.symm.trans k21_115), ← g3, ← (g5 (Or.inr (Or.inl (g1.symm.trans k21_115)))).1]; first | (rw [c92]; rfl) | (rw [c101, Bool.and_false]))) hP hD hS rfl dX4_isRight_109
          · skip
            refine lv_aload_n hx hb dX4_isRight_95 rfl (lv_at hl 3 rfl) ?_
            refine lv_iload hx hb dX4_isRight_96 (lv_at hl 0 rfl) ?_
            refine callVi (As := [.int (nI (nu9 (2 * i + 1)))]) (rest := []) (wc := (PW G ph pd nr nc pL pG pB pk pa pt pm)) (wr := (RDW G rh rd sh at9 mn9 lt9 nu9 sg9)) ⟨hx, hb, hml, hown, hts⟩ (m_X2_isPlace l G ph pd nr nc pL pG pB pk pa pt pm (nI (nu9 (2 * i + 1))) (by first | assumption | omega)) (cwV 1 hts (lw_V q1613 q1185 q1186 q89 q1187) rfl rfl rfl (by decide +kernel) ⟨Nat.le_of_ble_eq_true rfl, Nat.le_of_ble_eq_true rfl⟩) hK hZ hA hP hD hS [4, 5, 6, 7, 8, 9] [0, 1, 2, 3] rfl rfl (by decide) (by decide) (by decide) 0 1 rfl rfl rfl hl.1 (Nat.le_of_ble_eq_true rfl) ⟨Nat.le_of_ble_eq_true rfl, Nat.le_of_ble_eq_true rfl⟩ rfl dX4_isRight_98 (fun r9 u9 H locs hw9 hP hD hS => ?_)
            subst hw9
            have hP : va_P G.1 CL (RDW G rh rd sh at9 mn9 lt9 nu9 sg9 ++ PW G ph pd nr nc pL pG pB pk pa pt pm) _ := hP
            have hD : va_D A (RDW G rh rd sh at9 mn9 lt9 nu9 sg9 ++ PW G ph pd nr nc pL pG pB pk pa pt pm) := hD
            refine b_if_eq (tgt := 108) hx hb dX4_isRight_101 (by decide) (fun c101 => ?_) (fun c101 => ?_)
            · skip
              refine lv_iconst (v := nI 0) hx hb dX4_isRight_108 (by decide) ?_
              subst hQ
              exact ret_i hx hb hr hlk () (bI_0 (by rw [rg_s (g1.symm.trans k21_115), ← g3, ← (g5 (Or.inr (Or.inl (g1.symm.trans k21_115)))).1]; first | (rw [c92]; rfl) | (rw [c101, Bool.and_false]))) hP hD hS rfl dX4_isRight_109
            · skip
              refine lv_iconst (v := nI 1) hx hb dX4_isRight_104 (by decide) ?_
              refine lv_goto (tgt := 109) hx hb dX4_isRight_105 (by decide) ?_
              subst hQ
              exact ret_i hx hb hr hlk () (bI_1 (by rw [rg_s (g1.symm.trans k21_115), ← g3, ← (g5 (Or.inr (Or.inl (g1.symm.trans k21_115)))).1, c92, c101]; rfl)) hP hD hS rfl dX4_isRight_109
        · skip
          by_cases k21_116 : nI (lt9 i) = nI 116
          · skip
            refine lv_lookup (off := 95) (tgt := 116) hx hb dX4_isRight_21 (by decide) (by rw [k21_116]; decide) (by decide) ?_
            refine lv_aload_n hx hb dX4_isRight_116 rfl (lv_at hl 3 rfl) ?_
            refine lv_iload_n hx hb dX4_isRight_117 rfl (lv_at hl 1 rfl) ?_
            refine callVi (As := [.int (nI (nu9 (2 * i + 0)))]) (rest := []) (wc := (PW G ph pd nr nc pL pG pB pk pa pt pm)) (wr := (RDW G rh rd sh at9 mn9 lt9 nu9 sg9)) ⟨hx, hb, hml, hown, hts⟩ (m_X2_isTurn l G ph pd nr nc pL pG pB pk pa pt pm (nI (nu9 (2 * i + 0))) (by first | assumption | omega)) (cwV 1 hts (lw_V q1614 q1277 q1278 q89 q1279) rfl rfl rfl (by decide +kernel) ⟨Nat.le_of_ble_eq_true rfl, Nat.le_of_ble_eq_true rfl⟩) hK hZ hA hP hD hS [4, 5, 6, 7, 8, 9] [0, 1, 2, 3] rfl rfl (by decide) (by decide) (by decide) 0 1 rfl rfl rfl hl.1 (Nat.le_of_ble_eq_true rfl) ⟨Nat.le_of_ble_eq_true rfl, Nat.le_of_ble_eq_true rfl⟩ rfl dX4_isRight_118 (fun r9 u9 H locs hw9 hP hD hS => ?_)
            subst hw9
            have hP : va_P G.1 CL (RDW G rh rd sh at9 mn9 lt9 nu9 sg9 ++ PW G ph pd nr nc pL pG pB pk pa pt pm) _ := hP
            have hD : va_D A (RDW G rh rd sh at9 mn9 lt9 nu9 sg9 ++ PW G ph pd nr nc pL pG pB pk pa pt pm) := hD
            subst hQ
            exact ret_i hx hb hr hlk () (congrArg bI (by rw [rg_t (g1.symm.trans k21_116), ← g3])) hP hD hS (bI_nar _) dX4_isRight_121
          · skip
            by_cases k21_120 : nI (lt9 i) = nI 120
            · skip
              refine lv_lookup (off := 101) (tgt := 122) hx hb dX4_isRight_21 (by decide) (by rw [k21_120]; decide) (by decide) ?_
              refine lv_aload_n hx hb dX4_isRight_122 rfl (lv_at hl 3 rfl) ?_
              refine lv_iload_n hx hb dX4_isRight_123 rfl (lv_at hl 1 rfl) ?_
              refine callVi (As := [.int (nI (nu9 (2 * i + 0)))]) (rest := []) (wc := (PW G ph pd nr nc pL pG pB pk pa pt pm)) (wr := (RDW G rh rd sh at9 mn9 lt9 nu9 sg9)) ⟨hx, hb, hml, hown, hts⟩ (m_X2_isLine l G ph pd nr nc pL pG pB pk pa pt pm (nI (nu9 (2 * i + 0))) (by first | assumption | omega)) (cwV 1 hts (lw_V q1615 q1311 q1312 q89 q1313) rfl rfl rfl (by decide +kernel) ⟨Nat.le_of_ble_eq_true rfl, Nat.le_of_ble_eq_true rfl⟩) hK hZ hA hP hD hS [4, 5, 6, 7, 8, 9] [0, 1, 2, 3] rfl rfl (by decide) (by decide) (by decide) 0 1 rfl rfl rfl hl.1 (Nat.le_of_ble_eq_true rfl) ⟨Nat.le_of_ble_eq_true rfl, Nat.le_of_ble_eq_true rfl⟩ rfl dX4_isRight_124 (fun r9 u9 H locs hw9 hP hD hS => ?_)
              subst hw9
              have hP : va_P G.1 CL (RDW G rh rd sh at9 mn9 lt9 nu9 sg9 ++ PW G ph pd nr nc pL pG pB pk pa pt pm) _ := hP
              have hD : va_D A (RDW G rh rd sh at9 mn9 lt9 nu9 sg9 ++ PW G ph pd nr nc pL pG pB pk pa pt pm) := hD
              subst hQ
              exact ret_i hx hb hr hlk () (congrArg bI (by rw [rg_x (g1.symm.trans k21_120), ← g3])) hP hD hS (bI_nar _) dX4_isRight_127
            · skip
              refine lv_lookup (off := 107) (tgt := 128) hx hb dX4_isRight_21 (by decide) ((lv_osw k21_98 (by decide)).trans <| (lv_osw k21_103 (by decide)).trans <| (lv_osw k21_112 (by decide)).trans <| (lv_osw k21_115 (by decide)).trans <| (lv_osw k21_116 (by decide)).trans <| (lv_osw k21_120 (by decide)).trans <| rfl) (by decide) ?_
              refine lv_iload_n hx hb dX4_isRight_128 rfl (lv_at hl 1 rfl) ?_
              refine lv_iload hx hb dX4_isRight_129 (lv_at hl 0 rfl) ?_
              refine callSNi (As := [.int (nI (nu9 (2 * i + 0))), .int (nI (nu9 (2 * i + 1)))]) (rest := []) (wc := ([] : va_W)) (wr := (RDW G rh rd sh at9 mn9 lt9 nu9 sg9 ++ PW G ph pd nr nc pL pG pB pk pa pt pm)) ⟨hx, hb, hml, hown, hts⟩ (m_X1_isScramble l G (nI (nu9 (2 * i + 0))) (nI (nu9 (2 * i + 1))) ) (va_cnB 2 hts (lw_meth q1327) rfl rfl rfl (KS.nw hZ q1616 rfl) (hts _ q88) (by decide +kernel) ⟨Nat.le_of_ble_eq_true rfl, Nat.le_of_ble_eq_true rfl⟩) (hts _ q1326) hK hZ hA hP hD hS [] [0, 1, 2, 3, 4, 5, 6, 7, 8, 9] rfl rfl (by decide) (by decide) (by decide) rfl hl.1 (Nat.le_of_ble_eq_true rfl) ⟨Nat.le_of_ble_eq_true rfl, Nat.le_of_ble_eq_true rfl⟩ rfl dX4_isRight_131 (fun r9 u9 H locs hw9 hP hD hS => ?_)
              subst hw9
              have hP : va_P G.1 CL (RDW G rh rd sh at9 mn9 lt9 nu9 sg9 ++ PW G ph pd nr nc pL pG pB pk pa pt pm) _ := hP
              have hD : va_D A (RDW G rh rd sh at9 mn9 lt9 nu9 sg9 ++ PW G ph pd nr nc pL pG pB pk pa pt pm) := hD
              subst hQ
              exact ret_i hx hb hr hlk () (congrArg bI (by rw [rg_r (fun z => k21_98 (g1.trans z)) (fun z => k21_115 (g1.trans z)) (fun z => k21_112 (g1.trans z)) (fun z => k21_103 (g1.trans z)) (fun z => k21_116 (g1.trans z)) (fun z => k21_120 (g1.trans z)), ← g3, ← (g5 (Or.inr (Or.inr (L7_r h7 (fun z => k21_98 (g1.trans z)) (fun z => k21_115 (g1.trans z)) (fun z => k21_112 (g1.trans z)) (fun z => k21_103 (g1.trans z)) (fun z => k21_116 (g1.trans z)) (fun z => k21_120 (g1.trans z)))))).1])) hP hD hS (bI_nar _) dX4_isRight_134
