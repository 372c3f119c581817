theorem sg_a {t : Nat → Nat} {n i : Nat} {fr : Bool} (h : decide (nI 97 ≤ hrI t n i ∧ hrI t n i ≤ nI 108) = true) : sgW t n fr false i = false := by unfold sgW; rw [h]; rfl
theorem sg_b {t : Nat → Nat} {n i : Nat} {fr : Bool} (h : fr = true) (h2 : hrI t n i = nI 46) : sgW t n fr false i = false := by unfold sgW; rw [h, decide_eq_true h2]; simp
theorem sg_n {t : Nat → Nat} {n i : Nat} {fr : Bool} (h : decide (nI 97 ≤ hrI t n i ∧ hrI t n i ≤ nI 108) = false) (h2 : fr = false ∨ ¬ hrI t n i = nI 46) : sgW t n fr false i = true := by
  unfold sgW; rw [h]
  rcases h2 with h2 | h2
  · rw [h2]; rfl
  · rw [decide_eq_false h2]; simp
theorem fg_t {t : Nat → Nat} {n m i : Nat} : fgS t n m true i = (0, true, i) := rfl
theorem fg_p {t : Nat → Nat} {n m i : Nat} (h : (fgS t n m false i).2.1 = true) : (fgS t n m false i).2.2 = i := by
  unfold fgS at h ⊢
  rw [if_neg (by decide)] at h ⊢
  by_cases g : isDg t n i = true
  · rw [if_pos g] at h; exact Bool.noConfusion h
  · rw [if_neg g]
/-- the reader's arrays hold an order -/
def HoldR (lt nu sg : Nat → Nat) (i : Nat) (o : ORD) : Prop := nI (lt i) = o.1 ∧ lt i < 65536 ∧ nI (nu (2 * i)) = o.2.1 ∧ nu (2 * i) < 1000 ∧ ((o.1 = nI 98 ∨ o.1 = nI 115 ∨ o.1 = nI 114) → nI (nu (2 * i + 1)) = o.2.2 ∧ nu (2 * i + 1) < 1000) ∧ ((o.1 = nI 112 ∨ o.1 = nI 103) → nI (sg i) = o.2.2 ∧ sg i < 65536)
def SameR (lt nu sg lt2 nu2 sg2 : Nat → Nat) (k : Nat) : Prop := ∀ j, j < k → lt2 j = lt j ∧ nu2 (2 * j) = nu (2 * j) ∧ nu2 (2 * j + 1) = nu (2 * j + 1) ∧ sg2 j = sg j
section ORDS
variable {t : Nat → Nat} {n i : Nat}
theorem or_bs1 (h2 : hrI t n i = nI 98 ∨ hrI t n i = nI 115) (h : (fgS t n 1 false (i + 1)).2.1 = true) : (ordP t n i).1 = true ∧ (ordP t n i).2.1 = i + 1 := by
  rw [ordP_bs h2, h, fg_t]; exact ⟨rfl, fg_p h⟩
theorem or_bs2 (h2 : hrI t n i = nI 98 ∨ hrI t n i = nI 115) (h : (fgS t n 1 false (i + 1)).2.1 = false) (h3 : (fgS t n 1 false (fgS t n 1 false (i + 1)).2.2).2.1 = true) : (ordP t n i).1 = true ∧ (ordP t n i).2.1 = (fgS t n 1 false (i + 1)).2.2 := by
  rw [ordP_bs h2, h]; exact ⟨h3, fg_p h3⟩
theorem or_bs3 (h2 : hrI t n i = nI 98 ∨ hrI t n i = nI 115) (h : (fgS t n 1 false (i + 1)).2.1 = false) (h3 : (fgS t n 1 false (fgS t n 1 false (i + 1)).2.2).2.1 = false) : ordP t n i = (false, (fgS t n 1 false (fgS t n 1 false (i + 1)).2.2).2.2, hrI t n i, nI (fgS t n 1 false (i + 1)).1, nI (fgS t n 1 false (fgS t n 1 false (i + 1)).2.2).1) := by
  rw [ordP_bs h2, h, h3]
theorem or_pg1 (h2 : hrI t n i = nI 112 ∨ hrI t n i = nI 103) (h : (fgS t n 1 false (i + 1)).2.1 = true) : (ordP t n i).1 = true ∧ (ordP t n i).2.1 = i + 1 := by
  rw [ordP_pg h2, h]
  refine ⟨rfl, ?_⟩
  show sgS t n (decide (hrI t n i = nI 103)) true (fgS t n 1 false (i + 1)).2.2 = i + 1
  unfold sgS sgW; rw [Bool.true_or, if_pos rfl]; exact fg_p h
theorem or_pg2 (h2 : hrI t n i = nI 112 ∨ hrI t n i = nI 103) (h : (fgS t n 1 false (i + 1)).2.1 = false) (h3 : sgW t n (decide (hrI t n i = nI 103)) false (fgS t n 1 false (i + 1)).2.2 = true) : (ordP t n i).1 = true ∧ (ordP t n i).2.1 = (fgS t n 1 false (i + 1)).2.2 := by
  rw [ordP_pg h2, h]
  exact ⟨h3, by show sgS t n _ false _ = _; unfold sgS; rw [if_pos h3]⟩
theorem or_pg3 (h2 : hrI t n i = nI 112 ∨ hrI t n i = nI 103) (h : (fgS t n 1 false (i + 1)).2.1 = false) (h3 : sgW t n (decide (hrI t n i = nI 103)) false (fgS t n 1 false (i + 1)).2.2 = false) : ordP t n i = (false, (fgS t n 1 false (i + 1)).2.2 + 1, hrI t n i, nI (fgS t n 1 false (i + 1)).1, hrI t n (fgS t n 1 false (i + 1)).2.2) := by
  rw [ordP_pg h2, h, h3]
  have e : sgS t n (decide (hrI t n i = nI 103)) false (fgS t n 1 false (i + 1)).2.2 = (fgS t n 1 false (i + 1)).2.2 + 1 := by unfold sgS; rw [if_neg (by rw [h3]; decide)]
  rw [e]
theorem or_r1 (h2 : hrI t n i = nI 114) (h : (fgS t n 3 false (i + 1)).2.1 = true) : (ordP t n i).1 = true ∧ (ordP t n i).2.1 = i + 1 := by
  rw [ordP_r h2, h]
  have e1 : ∀ j, ndW t n (nI 47) true j = true := fun j => rfl
  have e2 : ∀ j, ndS t n (nI 47) true j = j := fun j => rfl
  rw [e1, e2, fg_t]; exact ⟨rfl, fg_p h⟩
theorem or_r2 (h2 : hrI t n i = nI 114) (h : (fgS t n 3 false (i + 1)).2.1 = false) (h3 : ¬ hrI t n (fgS t n 3 false (i + 1)).2.2 = nI 47) : (ordP t n i).1 = true ∧ (ordP t n i).2.1 = (fgS t n 3 false (i + 1)).2.2 := by
  rw [ordP_r h2, h]
  have e1 : ndW t n (nI 47) false (fgS t n 3 false (i + 1)).2.2 = true := by unfold ndW; rw [decide_eq_false h3]; rfl
  have e2 : ndS t n (nI 47) false (fgS t n 3 false (i + 1)).2.2 = (fgS t n 3 false (i + 1)).2.2 := by unfold ndS; rw [if_pos e1]
  rw [e1, e2, fg_t]; exact ⟨rfl, rfl⟩
theorem nd_y {p : Nat} (h3 : hrI t n p = nI 47) : ndW t n (nI 47) false p = false ∧ ndS t n (nI 47) false p = p + 1 := by
  have e1 : ndW t n (nI 47) false p = false := by unfold ndW; rw [decide_eq_true h3]; rfl
  exact ⟨e1, by unfold ndS; rw [if_neg (by rw [e1]; decide)]⟩
theorem or_r3 (h2 : hrI t n i = nI 114) (h : (fgS t n 3 false (i + 1)).2.1 = false) (h3 : hrI t n (fgS t n 3 false (i + 1)).2.2 = nI 47) (h4 : (fgS t n 1 false ((fgS t n 3 false (i + 1)).2.2 + 1)).2.1 = true) : (ordP t n i).1 = true ∧ (ordP t n i).2.1 = (fgS t n 3 false (i + 1)).2.2 + 1 := by
  rw [ordP_r h2, h, (nd_y h3).1, (nd_y h3).2]; exact ⟨h4, fg_p h4⟩
theorem or_r4 (h2 : hrI t n i = nI 114) (h : (fgS t n 3 false (i + 1)).2.1 = false) (h3 : hrI t n (fgS t n 3 false (i + 1)).2.2 = nI 47) (h4 : (fgS t n 1 false ((fgS t n 3 false (i + 1)).2.2 + 1)).2.1 = false) : ordP t n i = (false, (fgS t n 1 false ((fgS t n 3 false (i + 1)).2.2 + 1)).2.2, hrI t n i, nI (fgS t n 3 false (i + 1)).1, nI (fgS t n 1 false ((fgS t n 3 false (i + 1)).2.2 + 1)).1) := by
  rw [ordP_r h2, h, (nd_y h3).1, (nd_y h3).2, h4]
end ORDS
set_option maxHeartbeats 4000000 in
set_option maxRecDepth 100000 in
theorem m_X4_sign (l : Launch) (G : GG) (rh : Nat) (rd : Nat → Nat) (sh : Nat) (at9 : Nat) (mn9 : Nat) (lt9 : Nat → Nat) (nu9 : Nat → Nat) (sg9 : Nat → Nat) (sz : SBZ) (xs : List Nat) (fr9 : Bool) (hz : SBh sz xs) (hat : at9 ≤ xs.length) (hmn : mn9 < 60) (hst : l.stackTraces = false) : MX l G yX4_sign cX4_sign 2 none ⟨7, 1, 7, 113⟩ [.ref rh, .int (bI fr9)] (RDW G rh rd sh at9 mn9 lt9 nu9 sg9 ++ SBB G sh sz) (Qv_ G (fun (_ : Unit) => (sgW (xt xs) xs.length fr9 false at9) = false ∧ at9 < xs.length) (fun (_ : Unit) => (RDW G rh rd sh (at9 + 1) mn9 lt9 nu9 (va_up sg9 mn9 (xs.getD at9 0)) ++ SBB G sh sz))) (XQ G (fun (_ : Unit) => RX8) (fun (_ : Unit) => (sgW (xt xs) xs.length fr9 false at9) = true) (fun (q9 : Nat) (_ : Unit) => (RDW G rh rd sh at9 mn9 lt9 nu9 sg9 ++ SBB G sh sz ++ FTW G q9 (nI at9)))) := by
  refine MX.of (by decide) (Nat.le_of_ble_eq_true rfl) ?_
  intro p e s m args below meth cd A C hini hA hK hZ hP hD hnt ls hl
  generalize hQ : vx_MQ below ((Qv_ G (fun (_ : Unit) => (sgW (xt xs) xs.length fr9 false at9) = false ∧ at9 < xs.length) (fun (_ : Unit) => (RDW G rh rd sh (at9 + 1) mn9 lt9 nu9 (va_up sg9 mn9 (xs.getD at9 0)) ++ SBB G sh sz))) A) ((XQ G (fun (_ : Unit) => RX8) (fun (_ : Unit) => (sgW (xt xs) xs.length fr9 false at9) = true) (fun (q9 : Nat) (_ : Unit) => (RDW G rh rd sh at9 mn9 lt9 nu9 sg9 ++ SBB G sh sz ++ FTW G q9 (nI at9)))) A) args s (⟨7, 1, 7, 113⟩ : Room).cells (⟨7, 1, 7, 113⟩ : Room).slots A = Q
  obtain ⟨hx, hb, hr, hts, hown, hlk, hml⟩ := C
  have hown : s.vm.findClass RX4 = some m.cls := hown
  have hS : va_S A s.heap s.heap [] := va_S.rf
  have hl : lv_has ls 2 [(0, .ref rh), (1, .int (bI fr9))] := hl
  have hl6 := hz.len
  refine lv_aload_n hx hb dX4_sign_0 rfl (lv_at hl 0 rfl) ?_
  refine lv_aload_n hx hb dX4_sign_1 rfl (lv_at hl 0 rfl) ?_
  refine callVi (As := []) (rest := [.ref rh]) (wc := (RDW G rh rd sh at9 mn9 lt9 nu9 sg9 ++ SBB G sh sz)) (wr := ([] : va_W)) ⟨hx, hb, hml, hown, hts⟩ (m_X4_here l G rh rd sh at9 mn9 lt9 nu9 sg9 sz xs (by first | assumption | omega) (by first | assumption | omega)) (cwV 0 hts (lw_V q1566 q1568 qs28 q97 q1569) rfl rfl rfl (by decide +kernel) ⟨Nat.le_of_ble_eq_true rfl, Nat.le_of_ble_eq_true rfl⟩) hK hZ hA hP hD hS [0, 1, 2, 3, 4, 5] [] rfl rfl (by decide) (by decide) (by decide) 0 3 rfl rfl rfl hl.1 (Nat.le_of_ble_eq_true rfl) ⟨Nat.le_of_ble_eq_true rfl, Nat.le_of_ble_eq_true rfl⟩ rfl dX4_sign_2 (fun r9 u9 H locs hw9 hP hD hS => ?_)
  subst hw9
  have hP : va_P G.1 CL (RDW G rh rd sh at9 mn9 lt9 nu9 sg9 ++ SBB G sh sz) _ := hP
  have hD : va_D A (RDW G rh rd sh at9 mn9 lt9 nu9 sg9 ++ SBB G sh sz) := hD
  refine lv_bipush (v := nI 97) hx hb dX4_sign_5 (by decide) ?_
  refine lv_bipush (v := nI 108) hx hb dX4_sign_7 (by decide) ?_
  refine callSNi (As := [.int (hrI (xt xs) xs.length at9), .int (nI 97), .int (nI 108)]) (rest := [.ref rh]) (wc := ([] : va_W)) (wr := (RDW G rh rd sh at9 mn9 lt9 nu9 sg9 ++ SBB G sh sz)) ⟨hx, hb, hml, hown, hts⟩ (m_X1_in l G (hrI (xt xs) xs.length at9) (nI 97) (nI 108) ) (va_cnB 3 hts (lw_meth q1115) rfl rfl rfl (KS.nw hZ q1576 rfl) (hts _ q88) (by decide +kernel) ⟨Nat.le_of_ble_eq_true rfl, Nat.le_of_ble_eq_true rfl⟩) (hts _ q1114) hK hZ hA hP hD hS [] [0, 1, 2, 3, 4, 5] rfl rfl (by decide) (by decide) (by decide) rfl hl.1 (Nat.le_of_ble_eq_true rfl) ⟨Nat.le_of_ble_eq_true rfl, Nat.le_of_ble_eq_true rfl⟩ rfl dX4_sign_9 (fun r9 u9 H locs hw9 hP hD hS => ?_)
  subst hw9
  have hP : va_P G.1 CL (RDW G rh rd sh at9 mn9 lt9 nu9 sg9 ++ SBB G sh sz) _ := hP
  have hD : va_D A (RDW G rh rd sh at9 mn9 lt9 nu9 sg9 ++ SBB G sh sz) := hD
  refine b_if_ne (tgt := 28) hx hb dX4_sign_12 (by decide) (fun c12 => ?_) (fun c12 => ?_)
  · skip
    have hlt : at9 < xs.length := hr_lt (c := 97) (by decide) (of_decide_eq_true c12).1
    have hsw : (sgW (xt xs) xs.length fr9 false at9) = false := sg_a c12
    refine lv_iconst (v := nI 1) hx hb dX4_sign_28 (by decide) ?_
    refine lv_goto (tgt := 33) hx hb dX4_sign_29 (by decide) ?_
    refine callXVv (As := [.int (nI 1)]) (rest := []) (wc := (RDW G rh rd sh at9 mn9 lt9 nu9 sg9)) (wr := (SBB G sh sz)) ⟨hx, hb, hml, hown, hts⟩ (m_X4_must l G rh rd sh at9 mn9 lt9 nu9 sg9 true (by first | assumption | omega)) (cwV 1 hts (lw_V q1577 q1579 qs30 q97 q1580) rfl rfl rfl (by decide +kernel) ⟨Nat.le_of_ble_eq_true rfl, Nat.le_of_ble_eq_true rfl⟩) hK hZ hA hP hD hS [0, 1, 2, 3] [4, 5] rfl rfl (by decide) (by decide) (by decide) 0 3 rfl rfl rfl hl.1 (Nat.le_of_ble_eq_true rfl) ⟨Nat.le_of_ble_eq_true rfl, Nat.le_of_ble_eq_true rfl⟩ rfl dX4_sign_33 (fun ce9 q9 u9 H locs hw9 hP hD hS hce hcv hcl => ?_) (fun u9 H locs hw9 hP hD hS => ?_)
    · skip
      have hx33 : true = false := hw9
      obtain ⟨hP, hD⟩ := re_PD (w := (RDW G rh rd sh at9 mn9 lt9 nu9 sg9 ++ SBB G sh sz ++ FTW G q9 (nI at9))) hP hD [2, 3, 4, 5, 0, 1, 6] (by decide) rfl
      exact absurd hx33 (by decide)
    refine W.widen (k := 1) (n := 7) (Nat.le_refl _) (Nat.le_refl _) ?_
    have hw33 : true = true := hw9
    obtain ⟨hP, hD⟩ := re_PD (w := (RDW G rh rd sh at9 mn9 lt9 nu9 sg9 ++ SBB G sh sz)) hP hD [2, 3, 4, 5, 0, 1] (by decide) rfl
    refine lv_aload_n hx hb dX4_sign_36 rfl (lv_at hl 0 rfl) ?_
    refine va_get (D := G.1) (ci := 3) (v := .ref (rd 2)) (C := RX4) (T := TX4) (N := 6) hx hb hts in_X4 hown hK hP 0 rfl rfl 5 (by decide) (hts _ q279) (fun _ h9 => h9) rfl dX4_sign_37 ?_
    refine lv_aload_n hx hb dX4_sign_40 rfl (lv_at hl 0 rfl) ?_
    refine va_get (D := G.1) (ci := 3) (v := .int (nI mn9)) (C := RX4) (T := TX4) (N := 6) hx hb hts in_X4 hown hK hP 0 rfl rfl 2 (by decide) (hts _ q275) (fun _ h9 => h9) rfl dX4_sign_41 ?_
    refine lv_aload_n hx hb dX4_sign_44 rfl (lv_at hl 0 rfl) ?_
    refine va_get (D := G.1) (ci := 3) (v := .ref sh) (C := RX4) (T := TX4) (N := 6) hx hb hts in_X4 hown hK hP 0 rfl rfl 0 (by decide) (hts _ q273) (fun _ h9 => h9) rfl dX4_sign_45 ?_
    refine lv_aload_n hx hb dX4_sign_48 rfl (lv_at hl 0 rfl) ?_
    refine va_get (D := G.1) (ci := 3) (v := .int (nI at9)) (C := RX4) (T := TX4) (N := 6) hx hb hts in_X4 hown hK hP 0 rfl rfl 1 (by decide) (hts _ q274) (fun _ h9 => h9) rfl dX4_sign_49 ?_
    refine callVi (As := [.int (nI at9)]) (rest := [.int (nI mn9), .ref (rd 2)]) (wc := (SBB G sh sz)) (wr := (RDW G rh rd sh at9 mn9 lt9 nu9 sg9)) ⟨hx, hb, hml, hown, hts⟩ (m_J3_charAt l G sh sz xs at9 (by first | assumption | omega) hlt) (cwV 1 hts (lw_V q1571 q1516 q1517 q94 q1518) rfl rfl rfl (by decide +kernel) ⟨Nat.le_of_ble_eq_true rfl, Nat.le_of_ble_eq_true rfl⟩) hK hZ hA hP hD hS [4, 5] [0, 1, 2, 3] rfl rfl (by decide) (by decide) (by decide) 0 9 rfl rfl rfl hl.1 (Nat.le_of_ble_eq_true rfl) ⟨Nat.le_of_ble_eq_true rfl, Nat.le_of_ble_eq_true rfl⟩ rfl dX4_sign_52 (fun r9 u9 H locs hw9 hP hD hS => ?_)
    subst hw9
    have hP : va_P G.1 CL (RDW G rh rd sh at9 mn9 lt9 nu9 sg9 ++ SBB G sh sz) _ := hP
    have hD : va_D A (RDW G rh rd sh at9 mn9 lt9 nu9 sg9 ++ SBB G sh sz) := hD
    refine n_cast hx hb hK hP hD hS 3 2 rfl rfl (by omega) (by decide) (hz.2.2 at9) dX4_sign_55 (fun H locs hP hD hS => ?_)
    have hP : va_P G.1 CL (RDW G rh rd sh at9 mn9 lt9 nu9 (va_up sg9 mn9 (xs.getD at9 0)) ++ SBB G sh sz) _ := hP
    have hD : va_D A (RDW G rh rd sh at9 mn9 lt9 nu9 (va_up sg9 mn9 (xs.getD at9 0)) ++ SBB G sh sz) := hD
    refine lv_aload_n hx hb dX4_sign_56 rfl (lv_at hl 0 rfl) ?_
    refine lv_dup hx hb dX4_sign_57 rfl ?_
    refine va_get (D := G.1) (ci := 3) (v := .int (nI at9)) (C := RX4) (T := TX4) (N := 6) hx hb hts in_X4 hown hK hP 0 rfl rfl 1 (by decide) (hts _ q274) (fun _ h9 => h9) rfl dX4_sign_58 ?_
    refine lv_iconst (v := nI 1) hx hb dX4_sign_61 (by decide) ?_
    refine n_iadd hx hb dX4_sign_62 ?_
    refine va_put (D := G.1) (ci := 3) (v := .int (nI (at9 + 1))) (ty := .int) (C := RX4) (T := TX4) (N := 6) hx hb hts in_X4 tyX4 tyX4_ok nmX4 hown hK hP hD hS 0 rfl rfl 1 (by decide) (hts _ q274) (fun _ h9 => h9) rfl (by decide +kernel) rfl rfl (Nat.le_of_ble_eq_true rfl) dX4_sign_63 (fun H locs hP hD hS => ?_)
    have hP : va_P G.1 CL (RDW G rh rd sh (at9 + 1) mn9 lt9 nu9 (va_up sg9 mn9 (xs.getD at9 0)) ++ SBB G sh sz) _ := hP
    have hD : va_D A (RDW G rh rd sh (at9 + 1) mn9 lt9 nu9 (va_up sg9 mn9 (xs.getD at9 0)) ++ SBB G sh sz) := hD
    subst hQ
    refine vx_ret ?_
    exact ret_v hx hb hr hlk () ⟨hsw, hlt⟩ hP hD hS dX4_sign_66
  · skip
    refine lv_iload_n hx hb dX4_sign_15 rfl (lv_at hl 1 rfl) ?_
    refine b_if_eq (tgt := 32) hx hb dX4_sign_16 (by decide) (fun c16 => ?_) (fun c16 => ?_)
    · skip
      have hsw : (sgW (xt xs) xs.length fr9 false at9) = true := sg_n c12 (Or.inl c16)
      refine lv_iconst (v := nI 0) hx hb dX4_sign_32 (by decide) ?_
      refine callXVv (As := [.int (nI 0)]) (rest := []) (wc := (RDW G rh rd sh at9 mn9 lt9 nu9 sg9)) (wr := (SBB G sh sz)) ⟨hx, hb, hml, hown, hts⟩ (m_X4_must l G rh rd sh at9 mn9 lt9 nu9 sg9 false (by first | assumption | omega)) (cwV 1 hts (lw_V q1577 q1579 qs30 q97 q1580) rfl rfl rfl (by decide +kernel) ⟨Nat.le_of_ble_eq_true rfl, Nat.le_of_ble_eq_true rfl⟩) hK hZ hA hP hD hS [0, 1, 2, 3] [4, 5] rfl rfl (by decide) (by decide) (by decide) 0 3 rfl rfl rfl hl.1 (Nat.le_of_ble_eq_true rfl) ⟨Nat.le_of_ble_eq_true rfl, Nat.le_of_ble_eq_true rfl⟩ rfl dX4_sign_33 (fun ce9 q9 u9 H locs hw9 hP hD hS hce hcv hcl => ?_) (fun u9 H locs hw9 hP hD hS => ?_)
      · skip
        have hx33 : false = false := hw9
        obtain ⟨hP, hD⟩ := re_PD (w := (RDW G rh rd sh at9 mn9 lt9 nu9 sg9 ++ SBB G sh sz ++ FTW G q9 (nI at9))) hP hD [2, 3, 4, 5, 0, 1, 6] (by decide) rfl
        have hcl : s.vm.findClass RX8 = some ce9.cls := hcl
        subst hQ
        refine vx_widen (k := 1) (n := 7) (Nat.le_of_ble_eq_true rfl) (Nat.le_of_ble_eq_true rfl) ?_
        exact out_x (by rw [hnt]; exact fun x9 hx9 => nomatch hx9) hlk () hsw hP hD hS hce hcv hcl (Nat.le_refl _) (Nat.le_refl _)
      refine W.widen (k := 1) (n := 7) (Nat.le_refl _) (Nat.le_refl _) ?_
      have hw33 : false = true := hw9
      obtain ⟨hP, hD⟩ := re_PD (w := (RDW G rh rd sh at9 mn9 lt9 nu9 sg9 ++ SBB G sh sz)) hP hD [2, 3, 4, 5, 0, 1] (by decide) rfl
      exact absurd hw33 (by decide)
    · skip
      refine lv_aload_n hx hb dX4_sign_19 rfl (lv_at hl 0 rfl) ?_
      refine callVi (As := []) (rest := [.ref rh]) (wc := (RDW G rh rd sh at9 mn9 lt9 nu9 sg9 ++ SBB G sh sz)) (wr := ([] : va_W)) ⟨hx, hb, hml, hown, hts⟩ (m_X4_here l G rh rd sh at9 mn9 lt9 nu9 sg9 sz xs (by first | assumption | omega) (by first | assumption | omega)) (cwV 0 hts (lw_V q1566 q1568 qs28 q97 q1569) rfl rfl rfl (by decide +kernel) ⟨Nat.le_of_ble_eq_true rfl, Nat.le_of_ble_eq_true rfl⟩) hK hZ hA hP hD hS [0, 1, 2, 3, 4, 5] [] rfl rfl (by decide) (by decide) (by decide) 0 3 rfl rfl rfl hl.1 (Nat.le_of_ble_eq_true rfl) ⟨Nat.le_of_ble_eq_true rfl, Nat.le_of_ble_eq_true rfl⟩ rfl dX4_sign_20 (fun r9 u9 H locs hw9 hP hD hS => ?_)
      subst hw9
      have hP : va_P G.1 CL (RDW G rh rd sh at9 mn9 lt9 nu9 sg9 ++ SBB G sh sz) _ := hP
      have hD : va_D A (RDW G rh rd sh at9 mn9 lt9 nu9 sg9 ++ SBB G sh sz) := hD
      refine lv_bipush (v := nI 46) hx hb dX4_sign_23 (by decide) ?_
      refine lv_icmp_ne (tgt := 32) hx hb dX4_sign_25 (by decide) (fun c25 => ?_) (fun c25 => ?_)
      · skip
        have hsw : (sgW (xt xs) xs.length fr9 false at9) = true := sg_n c12 (Or.inr c25)
        refine lv_iconst (v := nI 0) hx hb dX4_sign_32 (by decide) ?_
        refine callXVv (As := [.int (nI 0)]) (rest := []) (wc := (RDW G rh rd sh at9 mn9 lt9 nu9 sg9)) (wr := (SBB G sh sz)) ⟨hx, hb, hml, hown, hts⟩ (m_X4_must l G rh rd sh at9 mn9 lt9 nu9 sg9 false (by first | assumption | omega)) (cwV 1 hts (lw_V q1577 q1579 qs30 q97 q1580) rfl rfl rfl (by decide +kernel) ⟨Nat.le_of_ble_eq_true rfl, Nat.le_of_ble_eq_true rfl⟩) hK hZ hA hP hD hS [0, 1, 2, 3] [4, 5] rfl rfl (by decide) (by decide) (by decide) 0 3 rfl rfl rfl hl.1 (Nat.le_of_ble_eq_true rfl) ⟨Nat.le_of_ble_eq_true rfl, Nat.le_of_ble_eq_true rfl⟩ rfl dX4_sign_33 (fun ce9 q9 u9 H locs hw9 hP hD hS hce hcv hcl => ?_) (fun u9 H locs hw9 hP hD hS => ?_)
        · skip
          have hx33 : false = false := hw9
          obtain ⟨hP, hD⟩ := re_PD (w := (RDW G rh rd sh at9 mn9 lt9 nu9 sg9 ++ SBB G sh sz ++ FTW G q9 (nI at9))) hP hD [2, 3, 4, 5, 0, 1, 6] (by decide) rfl
          have hcl : s.vm.findClass RX8 = some ce9.cls := hcl
          subst hQ
          refine vx_widen (k := 1) (n := 7) (Nat.le_of_ble_eq_true rfl) (Nat.le_of_ble_eq_true rfl) ?_
          exact out_x (by rw [hnt]; exact fun x9 hx9 => nomatch hx9) hlk () hsw hP hD hS hce hcv hcl (Nat.le_refl _) (Nat.le_refl _)
        refine W.widen (k := 1) (n := 7) (Nat.le_refl _) (Nat.le_refl _) ?_
        have hw33 : false = true := hw9
        obtain ⟨hP, hD⟩ := re_PD (w := (RDW G rh rd sh at9 mn9 lt9 nu9 sg9 ++ SBB G sh sz)) hP hD [2, 3, 4, 5, 0, 1] (by decide) rfl
        exact absurd hw33 (by decide)
      · skip
        have hlt : at9 < xs.length := hrI_lt (c := 46) c25 (by decide)
        have hsw : (sgW (xt xs) xs.length fr9 false at9) = false := sg_b c16 c25
        refine lv_iconst (v := nI 1) hx hb dX4_sign_28 (by decide) ?_
        refine lv_goto (tgt := 33) hx hb dX4_sign_29 (by decide) ?_
        refine callXVv (As := [.int (nI 1)]) (rest := []) (wc := (RDW G rh rd sh at9 mn9 lt9 nu9 sg9)) (wr := (SBB G sh sz)) ⟨hx, hb, hml, hown, hts⟩ (m_X4_must l G rh rd sh at9 mn9 lt9 nu9 sg9 true (by first | assumption | omega)) (cwV 1 hts (lw_V q1577 q1579 qs30 q97 q1580) rfl rfl rfl (by decide +kernel) ⟨Nat.le_of_ble_eq_true rfl, Nat.le_of_ble_eq_true rfl⟩) hK hZ hA hP hD hS [0, 1, 2, 3] [4, 5] rfl rfl (by decide) (by decide) (by decide) 0 3 rfl rfl rfl hl.1 (Nat.le_of_ble_eq_true rfl) ⟨Nat.le_of_ble_eq_true rfl, Nat.le_of_ble_eq_true rfl⟩ rfl dX4_sign_33 (fun ce9 q9 u9 H locs hw9 hP hD hS hce hcv hcl => ?_) (fun u9 H locs hw9 hP hD hS => ?_)
        · skip
          have hx33 : true = false := hw9
          obtain ⟨hP, hD⟩ := re_PD (w := (RDW G rh rd sh at9 mn9 lt9 nu9 sg9 ++ SBB G sh sz ++ FTW G q9 (nI at9))) hP hD [2, 3, 4, 5, 0, 1, 6] (by decide) rfl
          exact absurd hx33 (by decide)
        refine W.widen (k := 1) (n := 7) (Nat.le_refl _) (Nat.le_refl _) ?_
        have hw33 : true = true := hw9
        obtain ⟨hP, hD⟩ := re_PD (w := (RDW G rh rd sh at9 mn9 lt9 nu9 sg9 ++ SBB G sh sz)) hP hD [2, 3, 4, 5, 0, 1] (by decide) rfl
        refine lv_aload_n hx hb dX4_sign_36 rfl (lv_at hl 0 rfl) ?_
        refine va_get (D := G.1) (ci := 3) (v := .ref (rd 2)) (C := RX4) (T := TX4) (N := 6) hx hb hts in_X4 hown hK hP 0 rfl rfl 5 (by decide) (hts _ q279) (fun _ h9 => h9) rfl dX4_sign_37 ?_
        refine lv_aload_n hx hb dX4_sign_40 rfl (lv_at hl 0 rfl) ?_
        refine va_get (D := G.1) (ci := 3) (v := .int (nI mn9)) (C := RX4) (T := TX4) (N := 6) hx hb hts in_X4 hown hK hP 0 rfl rfl 2 (by decide) (hts _ q275) (fun _ h9 => h9) rfl dX4_sign_41 ?_
        refine lv_aload_n hx hb dX4_sign_44 rfl (lv_at hl 0 rfl) ?_
        refine va_get (D := G.1) (ci := 3) (v := .ref sh) (C := RX4) (T := TX4) (N := 6) hx hb hts in_X4 hown hK hP 0 rfl rfl 0 (by decide) (hts _ q273) (fun _ h9 => h9) rfl dX4_sign_45 ?_
        refine lv_aload_n hx hb dX4_sign_48 rfl (lv_at hl 0 rfl) ?_
        refine va_get (D := G.1) (ci := 3) (v := .int (nI at9)) (C := RX4) (T := TX4) (N := 6) hx hb hts in_X4 hown hK hP 0 rfl rfl 1 (by decide) (hts _ q274) (fun _ h9 => h9) rfl dX4_sign_49 ?_
        refine callVi (As := [.int (nI at9)]) (rest := [.int (nI mn9), .ref (rd 2)]) (wc := (SBB G sh sz)) (wr := (RDW G rh rd sh at9 mn9 lt9 nu9 sg9)) ⟨hx, hb, hml, hown, hts⟩ (m_J3_charAt l G sh sz xs at9 (by first | assumption | omega) hlt) (cwV 1 hts (lw_V q1571 q1516 q1517 q94 q1518) rfl rfl rfl (by decide +kernel) ⟨Nat.le_of_ble_eq_true rfl, Nat.le_of_ble_eq_true rfl⟩) hK hZ hA hP hD hS [4, 5] [0, 1, 2, 3] rfl rfl (by decide) (by decide) (by decide) 0 9 rfl rfl rfl hl.1 (Nat.le_of_ble_eq_true rfl) ⟨Nat.le_of_ble_eq_true rfl, Nat.le_of_ble_eq_true rfl⟩ rfl dX4_sign_52 (fun r9 u9 H locs hw9 hP hD hS => ?_)
        subst hw9
        have hP : va_P G.1 CL (RDW G rh rd sh at9 mn9 lt9 nu9 sg9 ++ SBB G sh sz) _ := hP
        have hD : va_D A (RDW G rh rd sh at9 mn9 lt9 nu9 sg9 ++ SBB G sh sz) := hD
        refine n_cast hx hb hK hP hD hS 3 2 rfl rfl (by omega) (by decide) (hz.2.2 at9) dX4_sign_55 (fun H locs hP hD hS => ?_)
        have hP : va_P G.1 CL (RDW G rh rd sh at9 mn9 lt9 nu9 (va_up sg9 mn9 (xs.getD at9 0)) ++ SBB G sh sz) _ := hP
        have hD : va_D A (RDW G rh rd sh at9 mn9 lt9 nu9 (va_up sg9 mn9 (xs.getD at9 0)) ++ SBB G sh sz) := hD
        refine lv_aload_n hx hb dX4_sign_56 rfl (lv_at hl 0 rfl) ?_
        refine lv_dup hx hb dX4_sign_57 rfl ?_
        refine va_get (D := G.1) (ci := 3) (v := .int (nI at9)) (C := RX4) (T := TX4) (N := 6) hx hb hts in_X4 hown hK hP 0 rfl rfl 1 (by decide) (hts _ q274) (fun _ h9 => h9) rfl dX4_sign_58 ?_
        refine lv_iconst (v := nI 1) hx hb dX4_sign_61 (by decide) ?_
        refine n_iadd hx hb dX4_sign_62 ?_
        refine va_put (D := G.1) (ci := 3) (v := .int (nI (at9 + 1))) (ty := .int) (C := RX4) (T := TX4) (N := 6) hx hb hts in_X4 tyX4 tyX4_ok nmX4 hown hK hP hD hS 0 rfl rfl 1 (by decide) (hts _ q274) (fun _ h9 => h9) rfl (by decide +kernel) rfl rfl (Nat.le_of_ble_eq_true rfl) dX4_sign_63 (fun H locs hP hD hS => ?_)
        have hP : va_P G.1 CL (RDW G rh rd sh (at9 + 1) mn9 lt9 nu9 (va_up sg9 mn9 (xs.getD at9 0)) ++ SBB G sh sz) _ := hP
        have hD : va_D A (RDW G rh rd sh (at9 + 1) mn9 lt9 nu9 (va_up sg9 mn9 (xs.getD at9 0)) ++ SBB G sh sz) := hD
        subst hQ
        refine vx_ret ?_
        exact ret_v hx hb hr hlk () ⟨hsw, hlt⟩ hP hD hS dX4_sign_66
