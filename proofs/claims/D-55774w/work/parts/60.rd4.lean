theorem nI_ne {a b : Nat} (ha : a < 2147483648) (hb : b < 2147483648) (h : a ≠ b) : ¬ nI a = nI b := fun z => h ((nI_eq ha hb).mp z)
theorem hold_2 {lt nu sg : Nat → Nat} {k c v w : Nat} {r : Int32} (hr : r = nI c) (hc : c < 65536) (h1 : c ≠ 112) (h2 : c ≠ 103) (hv : v < 1000) (hw : w < 1000) : HoldR (va_up lt k c) (va_up (va_up nu (2 * k + 0) v) (2 * k + 1) w) sg k (r, nI v, nI w) := by
  subst hr
  refine ⟨by simp [va_up], by simpa [va_up] using hc, by simp [va_up], by simpa [va_up] using hv, fun _ => ⟨by simp [va_up], by simpa [va_up] using hw⟩, fun h => ?_⟩
  rcases h with h | h
  · exact absurd h (nI_ne (by omega) (by decide) h1)
  · exact absurd h (nI_ne (by omega) (by decide) h2)
theorem hold_s {lt nu sg : Nat → Nat} {k c v x : Nat} {r q : Int32} (hr : r = nI c) (hc : c = 112 ∨ c = 103) (hv : v < 1000) (hx : x < 65536) (hq : nI x = q) : HoldR (va_up lt k c) (va_up nu (2 * k + 0) v) (va_up sg k x) k (r, nI v, q) := by
  subst hr
  have hc2 : c < 65536 := by omega
  refine ⟨by simp [va_up], by simpa [va_up] using hc2, by simp [va_up], by simpa [va_up] using hv, fun h => ?_, fun _ => ⟨by simpa [va_up] using hq, by simpa [va_up] using hx⟩⟩
  rcases h with h | h | h
  · exact absurd h (nI_ne (by omega) (by decide) (by omega))
  · exact absurd h (nI_ne (by omega) (by decide) (by omega))
  · exact absurd h (nI_ne (by omega) (by decide) (by omega))
theorem hold_1 {lt nu sg : Nat → Nat} {k c v : Nat} {r q : Int32} (hr : r = nI c) (hc : c = 116 ∨ c = 120) (hv : v < 1000) : HoldR (va_up lt k c) (va_up nu (2 * k + 0) v) sg k (r, nI v, q) := by
  subst hr
  have hc2 : c < 65536 := by omega
  refine ⟨by simp [va_up], by simpa [va_up] using hc2, by simp [va_up], by simpa [va_up] using hv, fun h => ?_, fun h => ?_⟩
  · rcases h with h | h | h
    · exact absurd h (nI_ne (by omega) (by decide) (by omega))
    · exact absurd h (nI_ne (by omega) (by decide) (by omega))
    · exact absurd h (nI_ne (by omega) (by decide) (by omega))
  · rcases h with h | h
    · exact absurd h (nI_ne (by omega) (by decide) (by omega))
    · exact absurd h (nI_ne (by omega) (by decide) (by omega))
theorem va_ne {L : Nat → Nat} {i j v : Nat} (h : j ≠ i) : va_up L i v j = L j := by unfold va_up; rw [if_neg h]
theorem same_2 {lt nu sg : Nat → Nat} {k c v w : Nat} : SameR lt nu sg (va_up lt k c) (va_up (va_up nu (2 * k + 0) v) (2 * k + 1) w) sg k := fun j hj => ⟨va_ne (by omega), (va_ne (by omega)).trans (va_ne (by omega)), (va_ne (by omega)).trans (va_ne (by omega)), rfl⟩
theorem same_s {lt nu sg : Nat → Nat} {k c v x : Nat} : SameR lt nu sg (va_up lt k c) (va_up nu (2 * k + 0) v) (va_up sg k x) k := fun j hj => ⟨va_ne (by omega), va_ne (by omega), va_ne (by omega), va_ne (by omega)⟩
theorem same_1 {lt nu sg : Nat → Nat} {k c v : Nat} : SameR lt nu sg (va_up lt k c) (va_up nu (2 * k + 0) v) sg k := fun j hj => ⟨va_ne (by omega), va_ne (by omega), va_ne (by omega), rfl⟩
theorem hrI_at {t : Nat → Nat} {n i : Nat} (h : i < n) : nI (t i) = hrI t n i := by unfold hrI; rw [if_pos h]
theorem or_t1 {t : Nat → Nat} {n i : Nat} (h : hrI t n i = nI 116) (hx : (fgS t n 3 false (i + 1)).2.1 = true) : (ordP t n i).1 = true ∧ (ordP t n i).2.1 = i + 1 := by rw [ordP_t h]; exact ⟨hx, fg_p hx⟩
theorem or_x1 {t : Nat → Nat} {n i : Nat} (h : hrI t n i = nI 120) (hx : (fgS t n 1 false (i + 1)).2.1 = true) : (ordP t n i).1 = true ∧ (ordP t n i).2.1 = i + 1 := by rw [ordP_x h]; exact ⟨hx, fg_p hx⟩
theorem or_t2 {t : Nat → Nat} {n i : Nat} (h : hrI t n i = nI 116) (hx : (fgS t n 3 false (i + 1)).2.1 = false) : ordP t n i = (false, (fgS t n 3 false (i + 1)).2.2, hrI t n i, nI (fgS t n 3 false (i + 1)).1, 0) := by rw [ordP_t h, hx]
theorem or_x2 {t : Nat → Nat} {n i : Nat} (h : hrI t n i = nI 120) (hx : (fgS t n 1 false (i + 1)).2.1 = false) : ordP t n i = (false, (fgS t n 1 false (i + 1)).2.2, hrI t n i, nI (fgS t n 1 false (i + 1)).1, 0) := by rw [ordP_x h, hx]
set_option maxHeartbeats 8000000 in
set_option maxRecDepth 100000 in
theorem m_X4_order (l : Launch) (G : GG) (rh : Nat) (rd : Nat → Nat) (sh : Nat) (at9 : Nat) (mn9 : Nat) (lt9 : Nat → Nat) (nu9 : Nat → Nat) (sg9 : Nat → Nat) (sz : SBZ) (xs : List Nat) (hz : SBh sz xs) (hat : at9 ≤ xs.length) (hmn : mn9 < 60) (hst : l.stackTraces = false) : MX l G yX4_order cX4_order 1 none ⟨8, 4, 28, 150⟩ [.ref rh] (RDW G rh rd sh at9 mn9 lt9 nu9 sg9 ++ SBB G sh sz) (Qv_ G (fun (u : (Nat → Nat) × (Nat → Nat) × (Nat → Nat)) => (ordP (xt xs) xs.length at9).1 = false ∧ HoldR u.1 u.2.1 u.2.2 mn9 (ordP (xt xs) xs.length at9).2.2 ∧ SameR lt9 nu9 sg9 u.1 u.2.1 u.2.2 mn9) (fun (u : (Nat → Nat) × (Nat → Nat) × (Nat → Nat)) => (RDW G rh rd sh ((ordP (xt xs) xs.length at9).2.1) (mn9 + 1) u.1 u.2.1 u.2.2 ++ SBB G sh sz))) (XQ G (fun (u : (Nat) × (Nat → Nat) × (Nat → Nat) × (Nat → Nat)) => RX8) (fun (u : (Nat) × (Nat → Nat) × (Nat → Nat) × (Nat → Nat)) => (ordP (xt xs) xs.length at9).1 = true) (fun (q9 : Nat) (u : (Nat) × (Nat → Nat) × (Nat → Nat) × (Nat → Nat)) => (RDW G rh rd sh u.1 mn9 u.2.1 u.2.2.1 u.2.2.2 ++ SBB G sh sz ++ FTW G q9 (nI (ordP (xt xs) xs.length at9).2.1)))) := by
  refine MX.of (by decide) (Nat.le_of_ble_eq_true rfl) ?_
  intro p e s m args below meth cd A C hini hA hK hZ hP hD hnt ls hl
  generalize hQ : vx_MQ below ((Qv_ G (fun (u : (Nat → Nat) × (Nat → Nat) × (Nat → Nat)) => (ordP (xt xs) xs.length at9).1 = false ∧ HoldR u.1 u.2.1 u.2.2 mn9 (ordP (xt xs) xs.length at9).2.2 ∧ SameR lt9 nu9 sg9 u.1 u.2.1 u.2.2 mn9) (fun (u : (Nat → Nat) × (Nat → Nat) × (Nat → Nat)) => (RDW G rh rd sh ((ordP (xt xs) xs.length at9).2.1) (mn9 + 1) u.1 u.2.1 u.2.2 ++ SBB G sh sz))) A) ((XQ G (fun (u : (Nat) × (Nat → Nat) × (Nat → Nat) × (Nat → Nat)) => RX8) (fun (u : (Nat) × (Nat → Nat) × (Nat → Nat) × (Nat → Nat)) => (ordP (xt xs) xs.length at9).1 = true) (fun (q9 : Nat) (u : (Nat) × (Nat → Nat) × (Nat → Nat) × (Nat → Nat)) => (RDW G rh rd sh u.1 mn9 u.2.1 u.2.2.1 u.2.2.2 ++ SBB G sh sz ++ FTW G q9 (nI (ordP (xt xs) xs.length at9).2.1)))) A) args s (⟨8, 4, 28, 150⟩ : Room).cells (⟨8, 4, 28, 150⟩ : Room).slots A = Q
  obtain ⟨hx, hb, hr, hts, hown, hlk, hml⟩ := C
  have hown : s.vm.findClass RX4 = some m.cls := hown
  have hS : va_S A s.heap s.heap [] := va_S.rf
  have hl : lv_has ls 1 [(0, .ref rh)] := hl
  have hl6 := hz.len
  refine lv_aload_n hx hb dX4_order_0 rfl (lv_at hl 0 rfl) ?_
  refine lv_bipush (v := nI 98) hx hb dX4_order_1 (by decide) ?_
  refine callVi (As := [.int (nI 98)]) (rest := []) (wc := (RDW G rh rd sh at9 mn9 lt9 nu9 sg9 ++ SBB G sh sz)) (wr := ([] : va_W)) ⟨hx, hb, hml, hown, hts⟩ (m_X4_isOrder l G rh rd sh at9 mn9 lt9 nu9 sg9 sz xs 98 (by first | assumption | omega) (by first | assumption | omega) (by decide) (by first | assumption | omega)) (cwV 1 hts (lw_V q1558 q1560 qs26 q97 q1561) rfl rfl rfl (by decide +kernel) ⟨Nat.le_of_ble_eq_true rfl, Nat.le_of_ble_eq_true rfl⟩) hK hZ hA hP hD hS [0, 1, 2, 3, 4, 5] [] rfl rfl (by decide) (by decide) (by decide) 0 3 rfl rfl rfl hl.1 (Nat.le_of_ble_eq_true rfl) ⟨Nat.le_of_ble_eq_true rfl, Nat.le_of_ble_eq_true rfl⟩ rfl dX4_order_3 (fun r9 u9 H locs hw9 hP hD hS => ?_)
  subst hw9
  have hP : va_P G.1 CL (RDW G rh rd sh (if (hrI (xt xs) xs.length at9) = nI 98 then at9 + 1 else at9) mn9 (if (hrI (xt xs) xs.length at9) = nI 98 then va_up lt9 mn9 98 else lt9) nu9 sg9 ++ SBB G sh sz) _ := hP
  have hD : va_D A (RDW G rh rd sh (if (hrI (xt xs) xs.length at9) = nI 98 then at9 + 1 else at9) mn9 (if (hrI (xt xs) xs.length at9) = nI 98 then va_up lt9 mn9 98 else lt9) nu9 sg9 ++ SBB G sh sz) := hD
  refine b_if_ne (tgt := 18) hx hb dX4_order_6 (by decide) (fun c6 => ?_) (fun c6 => ?_)
  · skip
    have hc : (hrI (xt xs) xs.length at9) = nI 98 := of_decide_eq_true c6
    have hlt := hrI_lt hc (by decide)
    have hbs : (hrI (xt xs) xs.length at9) = nI 98 ∨ (hrI (xt xs) xs.length at9) = nI 115 := Or.inl hc
    rw [show (if (hrI (xt xs) xs.length at9) = nI 98 then at9 + 1 else at9) = (at9 + 1) from if_pos (of_decide_eq_true c6)] at hP hD
    rw [show (if (hrI (xt xs) xs.length at9) = nI 98 then va_up lt9 mn9 98 else lt9) = (va_up lt9 mn9 98) from if_pos (of_decide_eq_true c6)] at hP hD
    refine lv_aload_n hx hb dX4_order_18 rfl (lv_at hl 0 rfl) ?_
    refine lv_iconst (v := nI 0) hx hb dX4_order_19 (by decide) ?_
    refine lv_iconst (v := nI 1) hx hb dX4_order_20 (by decide) ?_
    refine callXVv (As := [.int (nI 0), .int (nI 1)]) (rest := []) (wc := (RDW G rh rd sh (at9 + 1) mn9 (va_up lt9 mn9 98) nu9 sg9 ++ SBB G sh sz)) (wr := ([] : va_W)) ⟨hx, hb, hml, hown, hts⟩ (m_X4_number l G rh rd sh (at9 + 1) mn9 (va_up lt9 mn9 98) nu9 sg9 sz xs 0 1 (by first | assumption | omega) (by first | assumption | omega) (by first | assumption | omega) (by first | assumption | omega) (by first | assumption | omega) (by first | assumption | omega)) (cwV 2 hts (lw_V q1572 q1574 qs29 q97 q1575) rfl rfl rfl (by decide +kernel) ⟨Nat.le_of_ble_eq_true rfl, Nat.le_of_ble_eq_true rfl⟩) hK hZ hA hP hD hS [0, 1, 2, 3, 4, 5] [] rfl rfl (by decide) (by decide) (by decide) 0 3 rfl rfl rfl hl.1 (Nat.le_of_ble_eq_true rfl) ⟨Nat.le_of_ble_eq_true rfl, Nat.le_of_ble_eq_true rfl⟩ rfl dX4_order_21 (fun ce9 q9 u9 H locs hw9 hP hD hS hce hcv hcl => ?_) (fun u9 H locs hw9 hP hD hS => ?_)
    · skip
      have hx21 : (fgS (xt xs) xs.length 1 false (at9 + 1)).2.1 = true := hw9
      have hP : va_P G.1 CL (RDW G rh rd sh (at9 + 1) mn9 (va_up lt9 mn9 98) nu9 sg9 ++ SBB G sh sz ++ FTW G q9 (nI (at9 + 1))) _ := hP
      have hD : va_D A (RDW G rh rd sh (at9 + 1) mn9 (va_up lt9 mn9 98) nu9 sg9 ++ SBB G sh sz ++ FTW G q9 (nI (at9 + 1))) := hD
      have hcl : s.vm.findClass RX8 = some ce9.cls := hcl
      have e_r : (nI (at9 + 1)) = (nI (ordP (xt xs) xs.length at9).2.1) := (congrArg nI (or_bs1 hbs hx21).2.symm)
      try rw [e_r] at hP hD
      subst hQ
      refine vx_widen (k := 4) (n := 28) (Nat.le_of_ble_eq_true rfl) (Nat.le_of_ble_eq_true rfl) ?_
      exact out_x (by rw [hnt]; exact fun x9 hx9 => nomatch hx9) hlk ⟨(at9 + 1), (va_up lt9 mn9 98), nu9, sg9⟩ (or_bs1 hbs hx21).1 hP hD hS hce hcv hcl (Nat.le_refl _) (Nat.le_refl _)
    refine W.widen (k := 1) (n := 7) (Nat.le_refl _) (Nat.le_refl _) ?_
    have hw21 : (fgS (xt xs) xs.length 1 false (at9 + 1)).2.1 = false := hw9
    have hP : va_P G.1 CL (RDW G rh rd sh ((fgS (xt xs) xs.length 1 false (at9 + 1)).2.2) mn9 (va_up lt9 mn9 98) (va_up nu9 (2 * mn9 + 0) (fgS (xt xs) xs.length 1 false (at9 + 1)).1) sg9 ++ SBB G sh sz) _ := hP
    have hD : va_D A (RDW G rh rd sh ((fgS (xt xs) xs.length 1 false (at9 + 1)).2.2) mn9 (va_up lt9 mn9 98) (va_up nu9 (2 * mn9 + 0) (fgS (xt xs) xs.length 1 false (at9 + 1)).1) sg9 ++ SBB G sh sz) := hD
    refine lv_aload_n hx hb dX4_order_24 rfl (lv_at hl 0 rfl) ?_
    refine lv_iconst (v := nI 1) hx hb dX4_order_25 (by decide) ?_
    refine lv_iconst (v := nI 1) hx hb dX4_order_26 (by decide) ?_
    refine callXVv (As := [.int (nI 1), .int (nI 1)]) (rest := []) (wc := (RDW G rh rd sh ((fgS (xt xs) xs.length 1 false (at9 + 1)).2.2) mn9 (va_up lt9 mn9 98) (va_up nu9 (2 * mn9 + 0) (fgS (xt xs) xs.length 1 false (at9 + 1)).1) sg9 ++ SBB G sh sz)) (wr := ([] : va_W)) ⟨hx, hb, hml, hown, hts⟩ (m_X4_number l G rh rd sh ((fgS (xt xs) xs.length 1 false (at9 + 1)).2.2) mn9 (va_up lt9 mn9 98) (va_up nu9 (2 * mn9 + 0) (fgS (xt xs) xs.length 1 false (at9 + 1)).1) sg9 sz xs 1 1 (by first | assumption | omega) (fgS_le (m := 1) (show at9 + 1 ≤ xs.length by omega)).2 (by first | assumption | omega) (by first | assumption | omega) (by first | assumption | omega) (by first | assumption | omega)) (cwV 2 hts (lw_V q1572 q1574 qs29 q97 q1575) rfl rfl rfl (by decide +kernel) ⟨Nat.le_of_ble_eq_true rfl, Nat.le_of_ble_eq_true rfl⟩) hK hZ hA hP hD hS [0, 1, 2, 3, 4, 5] [] rfl rfl (by decide) (by decide) (by decide) 0 3 rfl rfl rfl hl.1 (Nat.le_of_ble_eq_true rfl) ⟨Nat.le_of_ble_eq_true rfl, Nat.le_of_ble_eq_true rfl⟩ rfl dX4_order_27 (fun ce9 q9 u9 H locs hw9 hP hD hS hce hcv hcl => ?_) (fun u9 H locs hw9 hP hD hS => ?_)
    · skip
      have hx27 : (fgS (xt xs) xs.length 1 false ((fgS (xt xs) xs.length 1 false (at9 + 1)).2.2)).2.1 = true := hw9
      have hP : va_P G.1 CL (RDW G rh rd sh ((fgS (xt xs) xs.length 1 false (at9 + 1)).2.2) mn9 (va_up lt9 mn9 98) (va_up nu9 (2 * mn9 + 0) (fgS (xt xs) xs.length 1 false (at9 + 1)).1) sg9 ++ SBB G sh sz ++ FTW G q9 (nI ((fgS (xt xs) xs.length 1 false (at9 + 1)).2.2))) _ := hP
      have hD : va_D A (RDW G rh rd sh ((fgS (xt xs) xs.length 1 false (at9 + 1)).2.2) mn9 (va_up lt9 mn9 98) (va_up nu9 (2 * mn9 + 0) (fgS (xt xs) xs.length 1 false (at9 + 1)).1) sg9 ++ SBB G sh sz ++ FTW G q9 (nI ((fgS (xt xs) xs.length 1 false (at9 + 1)).2.2))) := hD
      have hcl : s.vm.findClass RX8 = some ce9.cls := hcl
      have e_r : (nI ((fgS (xt xs) xs.length 1 false (at9 + 1)).2.2)) = (nI (ordP (xt xs) xs.length at9).2.1) := (congrArg nI (or_bs2 hbs hw21 hx27).2.symm)
      try rw [e_r] at hP hD
      subst hQ
      refine vx_widen (k := 4) (n := 28) (Nat.le_of_ble_eq_true rfl) (Nat.le_of_ble_eq_true rfl) ?_
      exact out_x (by rw [hnt]; exact fun x9 hx9 => nomatch hx9) hlk ⟨(fgS (xt xs) xs.length 1 false (at9 + 1)).2.2, (va_up lt9 mn9 98), (va_up nu9 (2 * mn9 + 0) (fgS (xt xs) xs.length 1 false (at9 + 1)).1), sg9⟩ (or_bs2 hbs hw21 hx27).1 hP hD hS hce hcv hcl (Nat.le_refl _) (Nat.le_refl _)
    refine W.widen (k := 2) (n := 14) (Nat.le_refl _) (Nat.le_refl _) ?_
    have hw27 : (fgS (xt xs) xs.length 1 false ((fgS (xt xs) xs.length 1 false (at9 + 1)).2.2)).2.1 = false := hw9
    have hP : va_P G.1 CL (RDW G rh rd sh ((fgS (xt xs) xs.length 1 false ((fgS (xt xs) xs.length 1 false (at9 + 1)).2.2)).2.2) mn9 (va_up lt9 mn9 98) (va_up (va_up nu9 (2 * mn9 + 0) (fgS (xt xs) xs.length 1 false (at9 + 1)).1) (2 * mn9 + 1) (fgS (xt xs) xs.length 1 false ((fgS (xt xs) xs.length 1 false (at9 + 1)).2.2)).1) sg9 ++ SBB G sh sz) _ := hP
    have hD : va_D A (RDW G rh rd sh ((fgS (xt xs) xs.length 1 false ((fgS (xt xs) xs.length 1 false (at9 + 1)).2.2)).2.2) mn9 (va_up lt9 mn9 98) (va_up (va_up nu9 (2 * mn9 + 0) (fgS (xt xs) xs.length 1 false (at9 + 1)).1) (2 * mn9 + 1) (fgS (xt xs) xs.length 1 false ((fgS (xt xs) xs.length 1 false (at9 + 1)).2.2)).1) sg9 ++ SBB G sh sz) := hD
    refine lv_goto (tgt := 147) hx hb dX4_order_30 (by decide) ?_
    refine lv_aload_n hx hb dX4_order_147 rfl (lv_at hl 0 rfl) ?_
    refine lv_dup hx hb dX4_order_148 rfl ?_
    refine va_get (D := G.1) (ci := 3) (v := .int (nI mn9)) (C := RX4) (T := TX4) (N := 6) hx hb hts in_X4 hown hK hP 0 rfl rfl 2 (by decide) (hts _ q275) (fun _ h9 => h9) rfl dX4_order_149 ?_
    refine lv_iconst (v := nI 1) hx hb dX4_order_152 (by decide) ?_
    refine n_iadd hx hb dX4_order_153 ?_
    refine va_put (D := G.1) (ci := 3) (v := .int (nI (mn9 + 1))) (ty := .int) (C := RX4) (T := TX4) (N := 6) hx hb hts in_X4 tyX4 tyX4_ok nmX4 hown hK hP hD hS 0 rfl rfl 2 (by decide) (hts _ q275) (fun _ h9 => h9) rfl (by decide +kernel) rfl rfl (Nat.le_of_ble_eq_true rfl) dX4_order_154 (fun H locs hP hD hS => ?_)
    have hP : va_P G.1 CL (RDW G rh rd sh ((fgS (xt xs) xs.length 1 false ((fgS (xt xs) xs.length 1 false (at9 + 1)).2.2)).2.2) (mn9 + 1) (va_up lt9 mn9 98) (va_up (va_up nu9 (2 * mn9 + 0) (fgS (xt xs) xs.length 1 false (at9 + 1)).1) (2 * mn9 + 1) (fgS (xt xs) xs.length 1 false ((fgS (xt xs) xs.length 1 false (at9 + 1)).2.2)).1) sg9 ++ SBB G sh sz) _ := hP
    have hD : va_D A (RDW G rh rd sh ((fgS (xt xs) xs.length 1 false ((fgS (xt xs) xs.length 1 false (at9 + 1)).2.2)).2.2) (mn9 + 1) (va_up lt9 mn9 98) (va_up (va_up nu9 (2 * mn9 + 0) (fgS (xt xs) xs.length 1 false (at9 + 1)).1) (2 * mn9 + 1) (fgS (xt xs) xs.length 1 false ((fgS (xt xs) xs.length 1 false (at9 + 1)).2.2)).1) sg9 ++ SBB G sh sz) := hD
    have e_at_ : (fgS (xt xs) xs.length 1 false ((fgS (xt xs) xs.length 1 false (at9 + 1)).2.2)).2.2 = (ordP (xt xs) xs.length at9).2.1 := (by rw [or_bs3 hbs hw21 hw27])
    rw [e_at_] at hP hD
    subst hQ
    refine W.widen (k := 4) (n := 28) (Nat.le_of_ble_eq_true rfl) (Nat.le_of_ble_eq_true rfl) ?_
    refine vx_ret ?_
    exact ret_v hx hb hr hlk (⟨(va_up lt9 mn9 98), (va_up (va_up nu9 (2 * mn9 + 0) (fgS (xt xs) xs.length 1 false (at9 + 1)).1) (2 * mn9 + 1) (fgS (xt xs) xs.length 1 false ((fgS (xt xs) xs.length 1 false (at9 + 1)).2.2)).1), sg9⟩) (by rw [or_bs3 hbs hw21 hw27]; exact ⟨rfl, hold_2 hc (by decide) (by decide) (by decide) (Nat.lt_trans fgS_v (by decide)) (Nat.lt_trans fgS_v (by decide)), same_2⟩) hP hD hS dX4_order_157
  · skip
    rw [show (if (hrI (xt xs) xs.length at9) = nI 98 then at9 + 1 else at9) = at9 from if_neg (of_decide_eq_false c6)] at hP hD
    rw [show (if (hrI (xt xs) xs.length at9) = nI 98 then va_up lt9 mn9 98 else lt9) = lt9 from if_neg (of_decide_eq_false c6)] at hP hD
    refine lv_aload_n hx hb dX4_order_9 rfl (lv_at hl 0 rfl) ?_
    refine lv_bipush (v := nI 115) hx hb dX4_order_10 (by decide) ?_
    refine callVi (As := [.int (nI 115)]) (rest := []) (wc := (RDW G rh rd sh at9 mn9 lt9 nu9 sg9 ++ SBB G sh sz)) (wr := ([] : va_W)) ⟨hx, hb, hml, hown, hts⟩ (m_X4_isOrder l G rh rd sh at9 mn9 lt9 nu9 sg9 sz xs 115 (by first | assumption | omega) (by first | assumption | omega) (by decide) (by first | assumption | omega)) (cwV 1 hts (lw_V q1558 q1560 qs26 q97 q1561) rfl rfl rfl (by decide +kernel) ⟨Nat.le_of_ble_eq_true rfl, Nat.le_of_ble_eq_true rfl⟩) hK hZ hA hP hD hS [0, 1, 2, 3, 4, 5] [] rfl rfl (by decide) (by decide) (by decide) 0 3 rfl rfl rfl hl.1 (Nat.le_of_ble_eq_true rfl) ⟨Nat.le_of_ble_eq_true rfl, Nat.le_of_ble_eq_true rfl⟩ rfl dX4_order_12 (fun r9 u9 H locs hw9 hP hD hS => ?_)
    subst hw9
    have hP : va_P G.1 CL (RDW G rh rd sh (if (hrI (xt xs) xs.length at9) = nI 115 then at9 + 1 else at9) mn9 (if (hrI (xt xs) xs.length at9) = nI 115 then va_up lt9 mn9 115 else lt9) nu9 sg9 ++ SBB G sh sz) _ := hP
    have hD : va_D A (RDW G rh rd sh (if (hrI (xt xs) xs.length at9) = nI 115 then at9 + 1 else at9) mn9 (if (hrI (xt xs) xs.length at9) = nI 115 then va_up lt9 mn9 115 else lt9) nu9 sg9 ++ SBB G sh sz) := hD
    refine b_if_eq (tgt := 33) hx hb dX4_order_15 (by decide) (fun c15 => ?_) (fun c15 => ?_)
    · skip
      rw [show (if (hrI (xt xs) xs.length at9) = nI 115 then at9 + 1 else at9) = at9 from if_neg (of_decide_eq_false c15)] at hP hD
      rw [show (if (hrI (xt xs) xs.length at9) = nI 115 then va_up lt9 mn9 115 else lt9) = lt9 from if_neg (of_decide_eq_false c15)] at hP hD
      refine lv_aload_n hx hb dX4_order_33 rfl (lv_at hl 0 rfl) ?_
      refine lv_bipush (v := nI 112) hx hb dX4_order_34 (by decide) ?_
      refine callVi (As := [.int (nI 112)]) (rest := []) (wc := (RDW G rh rd sh at9 mn9 lt9 nu9 sg9 ++ SBB G sh sz)) (wr := ([] : va_W)) ⟨hx, hb, hml, hown, hts⟩ (m_X4_isOrder l G rh rd sh at9 mn9 lt9 nu9 sg9 sz xs 112 (by first | assumption | omega) (by first | assumption | omega) (by decide) (by first | assumption | omega)) (cwV 1 hts (lw_V q1558 q1560 qs26 q97 q1561) rfl rfl rfl (by decide +kernel) ⟨Nat.le_of_ble_eq_true rfl, Nat.le_of_ble_eq_true rfl⟩) hK hZ hA hP hD hS [0, 1, 2, 3, 4, 5] [] rfl rfl (by decide) (by decide) (by decide) 0 3 rfl rfl rfl hl.1 (Nat.le_of_ble_eq_true rfl) ⟨Nat.le_of_ble_eq_true rfl, Nat.le_of_ble_eq_true rfl⟩ rfl dX4_order_36 (fun r9 u9 H locs hw9 hP hD hS => ?_)
      subst hw9
      have hP : va_P G.1 CL (RDW G rh rd sh (if (hrI (xt xs) xs.length at9) = nI 112 then at9 + 1 else at9) mn9 (if (hrI (xt xs) xs.length at9) = nI 112 then va_up lt9 mn9 112 else lt9) nu9 sg9 ++ SBB G sh sz) _ := hP
      have hD : va_D A (RDW G rh rd sh (if (hrI (xt xs) xs.length at9) = nI 112 then at9 + 1 else at9) mn9 (if (hrI (xt xs) xs.length at9) = nI 112 then va_up lt9 mn9 112 else lt9) nu9 sg9 ++ SBB G sh sz) := hD
      refine b_if_eq (tgt := 56) hx hb dX4_order_39 (by decide) (fun c39 => ?_) (fun c39 => ?_)
      · skip
        rw [show (if (hrI (xt xs) xs.length at9) = nI 112 then at9 + 1 else at9) = at9 from if_neg (of_decide_eq_false c39)] at hP hD
        rw [show (if (hrI (xt xs) xs.length at9) = nI 112 then va_up lt9 mn9 112 else lt9) = lt9 from if_neg (of_decide_eq_false c39)] at hP hD
        refine lv_aload_n hx hb dX4_order_56 rfl (lv_at hl 0 rfl) ?_
        refine lv_bipush (v := nI 103) hx hb dX4_order_57 (by decide) ?_
        refine callVi (As := [.int (nI 103)]) (rest := []) (wc := (RDW G rh rd sh at9 mn9 lt9 nu9 sg9 ++ SBB G sh sz)) (wr := ([] : va_W)) ⟨hx, hb, hml, hown, hts⟩ (m_X4_isOrder l G rh rd sh at9 mn9 lt9 nu9 sg9 sz xs 103 (by first | assumption | omega) (by first | assumption | omega) (by decide) (by first | assumption | omega)) (cwV 1 hts (lw_V q1558 q1560 qs26 q97 q1561) rfl rfl rfl (by decide +kernel) ⟨Nat.le_of_ble_eq_true rfl, Nat.le_of_ble_eq_true rfl⟩) hK hZ hA hP hD hS [0, 1, 2, 3, 4, 5] [] rfl rfl (by decide) (by decide) (by decide) 0 3 rfl rfl rfl hl.1 (Nat.le_of_ble_eq_true rfl) ⟨Nat.le_of_ble_eq_true rfl, Nat.le_of_ble_eq_true rfl⟩ rfl dX4_order_59 (fun r9 u9 H locs hw9 hP hD hS => ?_)
        subst hw9
        have hP : va_P G.1 CL (RDW G rh rd sh (if (hrI (xt xs) xs.length at9) = nI 103 then at9 + 1 else at9) mn9 (if (hrI (xt xs) xs.length at9) = nI 103 then va_up lt9 mn9 103 else lt9) nu9 sg9 ++ SBB G sh sz) _ := hP
        have hD : va_D A (RDW G rh rd sh (if (hrI (xt xs) xs.length at9) = nI 103 then at9 + 1 else at9) mn9 (if (hrI (xt xs) xs.length at9) = nI 103 then va_up lt9 mn9 103 else lt9) nu9 sg9 ++ SBB G sh sz) := hD
        refine b_if_eq (tgt := 79) hx hb dX4_order_62 (by decide) (fun c62 => ?_) (fun c62 => ?_)
        · skip
          rw [show (if (hrI (xt xs) xs.length at9) = nI 103 then at9 + 1 else at9) = at9 from if_neg (of_decide_eq_false c62)] at hP hD
          rw [show (if (hrI (xt xs) xs.length at9) = nI 103 then va_up lt9 mn9 103 else lt9) = lt9 from if_neg (of_decide_eq_false c62)] at hP hD
          refine lv_aload_n hx hb dX4_order_79 rfl (lv_at hl 0 rfl) ?_
          refine lv_bipush (v := nI 116) hx hb dX4_order_80 (by decide) ?_
          refine callVi (As := [.int (nI 116)]) (rest := []) (wc := (RDW G rh rd sh at9 mn9 lt9 nu9 sg9 ++ SBB G sh sz)) (wr := ([] : va_W)) ⟨hx, hb, hml, hown, hts⟩ (m_X4_isOrder l G rh rd sh at9 mn9 lt9 nu9 sg9 sz xs 116 (by first | assumption | omega) (by first | assumption | omega) (by decide) (by first | assumption | omega)) (cwV 1 hts (lw_V q1558 q1560 qs26 q97 q1561) rfl rfl rfl (by decide +kernel) ⟨Nat.le_of_ble_eq_true rfl, Nat.le_of_ble_eq_true rfl⟩) hK hZ hA hP hD hS [0, 1, 2, 3, 4, 5] [] rfl rfl (by decide) (by decide) (by decide) 0 3 rfl rfl rfl hl.1 (Nat.le_of_ble_eq_true rfl) ⟨Nat.le_of_ble_eq_true rfl, Nat.le_of_ble_eq_true rfl⟩ rfl dX4_order_82 (fun r9 u9 H locs hw9 hP hD hS => ?_)
          subst hw9
          have hP : va_P G.1 CL (RDW G rh rd sh (if (hrI (xt xs) xs.length at9) = nI 116 then at9 + 1 else at9) mn9 (if (hrI (xt xs) xs.length at9) = nI 116 then va_up lt9 mn9 116 else lt9) nu9 sg9 ++ SBB G sh sz) _ := hP
          have hD : va_D A (RDW G rh rd sh (if (hrI (xt xs) xs.length at9) = nI 116 then at9 + 1 else at9) mn9 (if (hrI (xt xs) xs.length at9) = nI 116 then va_up lt9 mn9 116 else lt9) nu9 sg9 ++ SBB G sh sz) := hD
          refine b_if_eq (tgt := 97) hx hb dX4_order_85 (by decide) (fun c85 => ?_) (fun c85 => ?_)
          · skip
            rw [show (if (hrI (xt xs) xs.length at9) = nI 116 then at9 + 1 else at9) = at9 from if_neg (of_decide_eq_false c85)] at hP hD
            rw [show (if (hrI (xt xs) xs.length at9) = nI 116 then va_up lt9 mn9 116 else lt9) = lt9 from if_neg (of_decide_eq_false c85)] at hP hD
            refine lv_aload_n hx hb dX4_order_97 rfl (lv_at hl 0 rfl) ?_
            refine lv_bipush (v := nI 120) hx hb dX4_order_98 (by decide) ?_
            refine callVi (As := [.int (nI 120)]) (rest := []) (wc := (RDW G rh rd sh at9 mn9 lt9 nu9 sg9 ++ SBB G sh sz)) (wr := ([] : va_W)) ⟨hx, hb, hml, hown, hts⟩ (m_X4_isOrder l G rh rd sh at9 mn9 lt9 nu9 sg9 sz xs 120 (by first | assumption | omega) (by first | assumption | omega) (by decide) (by first | assumption | omega)) (cwV 1 hts (lw_V q1558 q1560 qs26 q97 q1561) rfl rfl rfl (by decide +kernel) ⟨Nat.le_of_ble_eq_true rfl, Nat.le_of_ble_eq_true rfl⟩) hK hZ hA hP hD hS [0, 1, 2, 3, 4, 5] [] rfl rfl (by decide) (by decide) (by decide) 0 3 rfl rfl rfl hl.1 (Nat.le_of_ble_eq_true rfl) ⟨Nat.le_of_ble_eq_true rfl, Nat.le_of_ble_eq_true rfl⟩ rfl dX4_order_100 (fun r9 u9 H locs hw9 hP hD hS => ?_)
            subst hw9
            have hP : va_P G.1 CL (RDW G rh rd sh (if (hrI (xt xs) xs.length at9) = nI 120 then at9 + 1 else at9) mn9 (if (hrI (xt xs) xs.length at9) = nI 120 then va_up lt9 mn9 120 else lt9) nu9 sg9 ++ SBB G sh sz) _ := hP
            have hD : va_D A (RDW G rh rd sh (if (hrI (xt xs) xs.length at9) = nI 120 then at9 + 1 else at9) mn9 (if (hrI (xt xs) xs.length at9) = nI 120 then va_up lt9 mn9 120 else lt9) nu9 sg9 ++ SBB G sh sz) := hD
            refine b_if_eq (tgt := 115) hx hb dX4_order_103 (by decide) (fun c103 => ?_) (fun c103 => ?_)
            · skip
              rw [show (if (hrI (xt xs) xs.length at9) = nI 120 then at9 + 1 else at9) = at9 from if_neg (of_decide_eq_false c103)] at hP hD
              rw [show (if (hrI (xt xs) xs.length at9) = nI 120 then va_up lt9 mn9 120 else lt9) = lt9 from if_neg (of_decide_eq_false c103)] at hP hD
              refine lv_aload_n hx hb dX4_order_115 rfl (lv_at hl 0 rfl) ?_
              refine lv_aload_n hx hb dX4_order_116 rfl (lv_at hl 0 rfl) ?_
              refine lv_bipush (v := nI 114) hx hb dX4_order_117 (by decide) ?_
              refine callVi (As := [.int (nI 114)]) (rest := [.ref rh]) (wc := (RDW G rh rd sh at9 mn9 lt9 nu9 sg9 ++ SBB G sh sz)) (wr := ([] : va_W)) ⟨hx, hb, hml, hown, hts⟩ (m_X4_isOrder l G rh rd sh at9 mn9 lt9 nu9 sg9 sz xs 114 (by first | assumption | omega) (by first | assumption | omega) (by decide) (by first | assumption | omega)) (cwV 1 hts (lw_V q1558 q1560 qs26 q97 q1561) rfl rfl rfl (by decide +kernel) ⟨Nat.le_of_ble_eq_true rfl, Nat.le_of_ble_eq_true rfl⟩) hK hZ hA hP hD hS [0, 1, 2, 3, 4, 5] [] rfl rfl (by decide) (by decide) (by decide) 0 3 rfl rfl rfl hl.1 (Nat.le_of_ble_eq_true rfl) ⟨Nat.le_of_ble_eq_true rfl, Nat.le_of_ble_eq_true rfl⟩ rfl dX4_order_119 (fun r9 u9 H locs hw9 hP hD hS => ?_)
              subst hw9
              have hP : va_P G.1 CL (RDW G rh rd sh (if (hrI (xt xs) xs.length at9) = nI 114 then at9 + 1 else at9) mn9 (if (hrI (xt xs) xs.length at9) = nI 114 then va_up lt9 mn9 114 else lt9) nu9 sg9 ++ SBB G sh sz) _ := hP
              have hD : va_D A (RDW G rh rd sh (if (hrI (xt xs) xs.length at9) = nI 114 then at9 + 1 else at9) mn9 (if (hrI (xt xs) xs.length at9) = nI 114 then va_up lt9 mn9 114 else lt9) nu9 sg9 ++ SBB G sh sz) := hD
              refine callXVv (As := [.int (bI (decide ((hrI (xt xs) xs.length at9) = nI 114)))]) (rest := []) (wc := (RDW G rh rd sh (if (hrI (xt xs) xs.length at9) = nI 114 then at9 + 1 else at9) mn9 (if (hrI (xt xs) xs.length at9) = nI 114 then va_up lt9 mn9 114 else lt9) nu9 sg9)) (wr := (SBB G sh sz)) ⟨hx, hb, hml, hown, hts⟩ (m_X4_must l G rh rd sh (if (hrI (xt xs) xs.length at9) = nI 114 then at9 + 1 else at9) mn9 (if (hrI (xt xs) xs.length at9) = nI 114 then va_up lt9 mn9 114 else lt9) nu9 sg9 (decide ((hrI (xt xs) xs.length at9) = nI 114)) (by first | assumption | omega)) (cwV 1 hts (lw_V q1577 q1579 qs30 q97 q1580) rfl rfl rfl (by decide +kernel) ⟨Nat.le_of_ble_eq_true rfl, Nat.le_of_ble_eq_true rfl⟩) hK hZ hA hP hD hS [0, 1, 2, 3] [4, 5] rfl rfl (by decide) (by decide) (by decide) 0 3 rfl rfl rfl hl.1 (Nat.le_of_ble_eq_true rfl) ⟨Nat.le_of_ble_eq_true rfl, Nat.le_of_ble_eq_true rfl⟩ rfl dX4_order_122 (fun ce9 q9 u9 H locs hw9 hP hD hS hce hcv hcl => ?_) (fun u9 H locs hw9 hP hD hS => ?_)
              · skip
                have hx122 : (decide ((hrI (xt xs) xs.length at9) = nI 114)) = false := hw9
                obtain ⟨hP, hD⟩ := re_PD (w := (RDW G rh rd sh (if (hrI (xt xs) xs.length at9) = nI 114 then at9 + 1 else at9) mn9 (if (hrI (xt xs) xs.length at9) = nI 114 then va_up lt9 mn9 114 else lt9) nu9 sg9 ++ SBB G sh sz ++ FTW G q9 (nI (if (hrI (xt xs) xs.length at9) = nI 114 then at9 + 1 else at9)))) hP hD [2, 3, 4, 5, 0, 1, 6] (by decide) rfl
                have hcl : s.vm.findClass RX8 = some ce9.cls := hcl
                have e_r : (nI (if (hrI (xt xs) xs.length at9) = nI 114 then at9 + 1 else at9)) = (nI (ordP (xt xs) xs.length at9).2.1) := (by rw [(ordP_d (of_decide_eq_false c6) (of_decide_eq_false c15) (of_decide_eq_false c39) (of_decide_eq_false c62) (of_decide_eq_false c85) (of_decide_eq_false c103) (of_decide_eq_false hx122)), if_neg (of_decide_eq_false hx122)])
                try rw [e_r] at hP hD
                subst hQ
                refine vx_widen (k := 4) (n := 28) (Nat.le_of_ble_eq_true rfl) (Nat.le_of_ble_eq_true rfl) ?_
                exact out_x (by rw [hnt]; exact fun x9 hx9 => nomatch hx9) hlk ⟨(if (hrI (xt xs) xs.length at9) = nI 114 then at9 + 1 else at9), (if (hrI (xt xs) xs.length at9) = nI 114 then va_up lt9 mn9 114 else lt9), nu9, sg9⟩ (by rw [(ordP_d (of_decide_eq_false c6) (of_decide_eq_false c15) (of_decide_eq_false c39) (of_decide_eq_false c62) (of_decide_eq_false c85) (of_decide_eq_false c103) (of_decide_eq_false hx122))]) hP hD hS hce hcv hcl (Nat.le_refl _) (Nat.le_refl _)
              refine W.widen (k := 1) (n := 7) (Nat.le_refl _) (Nat.le_refl _) ?_
              have hw122 : (decide ((hrI (xt xs) xs.length at9) = nI 114)) = true := hw9
              obtain ⟨hP, hD⟩ := re_PD (w := (RDW G rh rd sh (if (hrI (xt xs) xs.length at9) = nI 114 then at9 + 1 else at9) mn9 (if (hrI (xt xs) xs.length at9) = nI 114 then va_up lt9 mn9 114 else lt9) nu9 sg9 ++ SBB G sh sz)) hP hD [2, 3, 4, 5, 0, 1] (by decide) rfl
              have hc : (hrI (xt xs) xs.length at9) = nI 114 := of_decide_eq_true hw122
              have hlt := hrI_lt hc (by decide)
              rw [show (if (hrI (xt xs) xs.length at9) = nI 114 then at9 + 1 else at9) = (at9 + 1) from if_pos (of_decide_eq_true hw122)] at hP hD
              rw [show (if (hrI (xt xs) xs.length at9) = nI 114 then va_up lt9 mn9 114 else lt9) = (va_up lt9 mn9 114) from if_pos (of_decide_eq_true hw122)] at hP hD
              refine lv_aload_n hx hb dX4_order_125 rfl (lv_at hl 0 rfl) ?_
              refine lv_iconst (v := nI 0) hx hb dX4_order_126 (by decide) ?_
              refine lv_iconst (v := nI 3) hx hb dX4_order_127 (by decide) ?_
              refine callXVv (As := [.int (nI 0), .int (nI 3)]) (rest := []) (wc := (RDW G rh rd sh (at9 + 1) mn9 (va_up lt9 mn9 114) nu9 sg9 ++ SBB G sh sz)) (wr := ([] : va_W)) ⟨hx, hb, hml, hown, hts⟩ (m_X4_number l G rh rd sh (at9 + 1) mn9 (va_up lt9 mn9 114) nu9 sg9 sz xs 0 3 (by first | assumption | omega) (by first | assumption | omega) (by first | assumption | omega) (by first | assumption | omega) (by first | assumption | omega) (by first | assumption | omega)) (cwV 2 hts (lw_V q1572 q1574 qs29 q97 q1575) rfl rfl rfl (by decide +kernel) ⟨Nat.le_of_ble_eq_true rfl, Nat.le_of_ble_eq_true rfl⟩) hK hZ hA hP hD hS [0, 1, 2, 3, 4, 5] [] rfl rfl (by decide) (by decide) (by decide) 0 3 rfl rfl rfl hl.1 (Nat.le_of_ble_eq_true rfl) ⟨Nat.le_of_ble_eq_true rfl, Nat.le_of_ble_eq_true rfl⟩ rfl dX4_order_128 (fun ce9 q9 u9 H locs hw9 hP hD hS hce hcv hcl => ?_) (fun u9 H locs hw9 hP hD hS => ?_)
              · skip
                have hx128 : (fgS (xt xs) xs.length 3 false (at9 + 1)).2.1 = true := hw9
                have hP : va_P G.1 CL (RDW G rh rd sh (at9 + 1) mn9 (va_up lt9 mn9 114) nu9 sg9 ++ SBB G sh sz ++ FTW G q9 (nI (at9 + 1))) _ := hP
                have hD : va_D A (RDW G rh rd sh (at9 + 1) mn9 (va_up lt9 mn9 114) nu9 sg9 ++ SBB G sh sz ++ FTW G q9 (nI (at9 + 1))) := hD
                have hcl : s.vm.findClass RX8 = some ce9.cls := hcl
                have e_r : (nI (at9 + 1)) = (nI (ordP (xt xs) xs.length at9).2.1) := (congrArg nI (or_r1 hc hx128).2.symm)
                try rw [e_r] at hP hD
                subst hQ
                refine vx_widen (k := 4) (n := 28) (Nat.le_of_ble_eq_true rfl) (Nat.le_of_ble_eq_true rfl) ?_
                exact out_x (by rw [hnt]; exact fun x9 hx9 => nomatch hx9) hlk ⟨(at9 + 1), (va_up lt9 mn9 114), nu9, sg9⟩ (or_r1 hc hx128).1 hP hD hS hce hcv hcl (Nat.le_refl _) (Nat.le_refl _)
              refine W.widen (k := 2) (n := 14) (Nat.le_refl _) (Nat.le_refl _) ?_
              have hw128 : (fgS (xt xs) xs.length 3 false (at9 + 1)).2.1 = false := hw9
              have hP : va_P G.1 CL (RDW G rh rd sh ((fgS (xt xs) xs.length 3 false (at9 + 1)).2.2) mn9 (va_up lt9 mn9 114) (va_up nu9 (2 * mn9 + 0) (fgS (xt xs) xs.length 3 false (at9 + 1)).1) sg9 ++ SBB G sh sz) _ := hP
              have hD : va_D A (RDW G rh rd sh ((fgS (xt xs) xs.length 3 false (at9 + 1)).2.2) mn9 (va_up lt9 mn9 114) (va_up nu9 (2 * mn9 + 0) (fgS (xt xs) xs.length 3 false (at9 + 1)).1) sg9 ++ SBB G sh sz) := hD
              refine lv_aload_n hx hb dX4_order_131 rfl (lv_at hl 0 rfl) ?_
              refine lv_aload_n hx hb dX4_order_132 rfl (lv_at hl 0 rfl) ?_
              refine lv_bipush (v := nI 47) hx hb dX4_order_133 (by decide) ?_
              refine callVi (As := [.int (nI 47)]) (rest := [.ref rh]) (wc := (RDW G rh rd sh ((fgS (xt xs) xs.length 3 false (at9 + 1)).2.2) mn9 (va_up lt9 mn9 114) (va_up nu9 (2 * mn9 + 0) (fgS (xt xs) xs.length 3 false (at9 + 1)).1) sg9 ++ SBB G sh sz)) (wr := ([] : va_W)) ⟨hx, hb, hml, hown, hts⟩ (m_X4_skip l G rh rd sh ((fgS (xt xs) xs.length 3 false (at9 + 1)).2.2) mn9 (va_up lt9 mn9 114) (va_up nu9 (2 * mn9 + 0) (fgS (xt xs) xs.length 3 false (at9 + 1)).1) sg9 sz xs 47 (by first | assumption | omega) (fgS_le (m := 3) (show at9 + 1 ≤ xs.length by omega)).2 (by decide)) (cwV 1 hts (lw_V q1562 q1564 qs27 q97 q1565) rfl rfl rfl (by decide +kernel) ⟨Nat.le_of_ble_eq_true rfl, Nat.le_of_ble_eq_true rfl⟩) hK hZ hA hP hD hS [0, 1, 2, 3, 4, 5] [] rfl rfl (by decide) (by decide) (by decide) 0 3 rfl rfl rfl hl.1 (Nat.le_of_ble_eq_true rfl) ⟨Nat.le_of_ble_eq_true rfl, Nat.le_of_ble_eq_true rfl⟩ rfl dX4_order_135 (fun r9 u9 H locs hw9 hP hD hS => ?_)
              subst hw9
              have hP : va_P G.1 CL (RDW G rh rd sh (if (hrI (xt xs) xs.length ((fgS (xt xs) xs.length 3 false (at9 + 1)).2.2)) = nI 47 then ((fgS (xt xs) xs.length 3 false (at9 + 1)).2.2) + 1 else ((fgS (xt xs) xs.length 3 false (at9 + 1)).2.2)) mn9 (va_up lt9 mn9 114) (va_up nu9 (2 * mn9 + 0) (fgS (xt xs) xs.length 3 false (at9 + 1)).1) sg9 ++ SBB G sh sz) _ := hP
              have hD : va_D A (RDW G rh rd sh (if (hrI (xt xs) xs.length ((fgS (xt xs) xs.length 3 false (at9 + 1)).2.2)) = nI 47 then ((fgS (xt xs) xs.length 3 false (at9 + 1)).2.2) + 1 else ((fgS (xt xs) xs.length 3 false (at9 + 1)).2.2)) mn9 (va_up lt9 mn9 114) (va_up nu9 (2 * mn9 + 0) (fgS (xt xs) xs.length 3 false (at9 + 1)).1) sg9 ++ SBB G sh sz) := hD
              refine callXVv (As := [.int (bI (decide ((hrI (xt xs) xs.length ((fgS (xt xs) xs.length 3 false (at9 + 1)).2.2)) = nI 47)))]) (rest := []) (wc := (RDW G rh rd sh (if (hrI (xt xs) xs.length ((fgS (xt xs) xs.length 3 false (at9 + 1)).2.2)) = nI 47 then ((fgS (xt xs) xs.length 3 false (at9 + 1)).2.2) + 1 else ((fgS (xt xs) xs.length 3 false (at9 + 1)).2.2)) mn9 (va_up lt9 mn9 114) (va_up nu9 (2 * mn9 + 0) (fgS (xt xs) xs.length 3 false (at9 + 1)).1) sg9)) (wr := (SBB G sh sz)) ⟨hx, hb, hml, hown, hts⟩ (m_X4_must l G rh rd sh (if (hrI (xt xs) xs.length ((fgS (xt xs) xs.length 3 false (at9 + 1)).2.2)) = nI 47 then ((fgS (xt xs) xs.length 3 false (at9 + 1)).2.2) + 1 else ((fgS (xt xs) xs.length 3 false (at9 + 1)).2.2)) mn9 (va_up lt9 mn9 114) (va_up nu9 (2 * mn9 + 0) (fgS (xt xs) xs.length 3 false (at9 + 1)).1) sg9 (decide ((hrI (xt xs) xs.length ((fgS (xt xs) xs.length 3 false (at9 + 1)).2.2)) = nI 47)) (by first | assumption | omega)) (cwV 1 hts (lw_V q1577 q1579 qs30 q97 q1580) rfl rfl rfl (by decide +kernel) ⟨Nat.le_of_ble_eq_true rfl, Nat.le_of_ble_eq_true rfl⟩) hK hZ hA hP hD hS [0, 1, 2, 3] [4, 5] rfl rfl (by decide) (by decide) (by decide) 0 3 rfl rfl rfl hl.1 (Nat.le_of_ble_eq_true rfl) ⟨Nat.le_of_ble_eq_true rfl, Nat.le_of_ble_eq_true rfl⟩ rfl dX4_order_138 (fun ce9 q9 u9 H locs hw9 hP hD hS hce hcv hcl => ?_) (fun u9 H locs hw9 hP hD hS => ?_)
              · skip
                have hx138 : (decide ((hrI (xt xs) xs.length ((fgS (xt xs) xs.length 3 false (at9 + 1)).2.2)) = nI 47)) = false := hw9
                obtain ⟨hP, hD⟩ := re_PD (w := (RDW G rh rd sh (if (hrI (xt xs) xs.length ((fgS (xt xs) xs.length 3 false (at9 + 1)).2.2)) = nI 47 then ((fgS (xt xs) xs.length 3 false (at9 + 1)).2.2) + 1 else ((fgS (xt xs) xs.length 3 false (at9 + 1)).2.2)) mn9 (va_up lt9 mn9 114) (va_up nu9 (2 * mn9 + 0) (fgS (xt xs) xs.length 3 false (at9 + 1)).1) sg9 ++ SBB G sh sz ++ FTW G q9 (nI (if (hrI (xt xs) xs.length ((fgS (xt xs) xs.length 3 false (at9 + 1)).2.2)) = nI 47 then ((fgS (xt xs) xs.length 3 false (at9 + 1)).2.2) + 1 else ((fgS (xt xs) xs.length 3 false (at9 + 1)).2.2))))) hP hD [2, 3, 4, 5, 0, 1, 6] (by decide) rfl
                have hcl : s.vm.findClass RX8 = some ce9.cls := hcl
                have e_r : (nI (if (hrI (xt xs) xs.length ((fgS (xt xs) xs.length 3 false (at9 + 1)).2.2)) = nI 47 then ((fgS (xt xs) xs.length 3 false (at9 + 1)).2.2) + 1 else ((fgS (xt xs) xs.length 3 false (at9 + 1)).2.2))) = (nI (ordP (xt xs) xs.length at9).2.1) := (by rw [if_neg (of_decide_eq_false hx138)]; exact congrArg nI (or_r2 hc hw128 (of_decide_eq_false hx138)).2.symm)
                try rw [e_r] at hP hD
                subst hQ
                refine vx_widen (k := 4) (n := 28) (Nat.le_of_ble_eq_true rfl) (Nat.le_of_ble_eq_true rfl) ?_
                exact out_x (by rw [hnt]; exact fun x9 hx9 => nomatch hx9) hlk ⟨(if (hrI (xt xs) xs.length ((fgS (xt xs) xs.length 3 false (at9 + 1)).2.2)) = nI 47 then ((fgS (xt xs) xs.length 3 false (at9 + 1)).2.2) + 1 else ((fgS (xt xs) xs.length 3 false (at9 + 1)).2.2)), (va_up lt9 mn9 114), (va_up nu9 (2 * mn9 + 0) (fgS (xt xs) xs.length 3 false (at9 + 1)).1), sg9⟩ (or_r2 hc hw128 (of_decide_eq_false hx138)).1 hP hD hS hce hcv hcl (Nat.le_refl _) (Nat.le_refl _)
              refine W.widen (k := 3) (n := 21) (Nat.le_refl _) (Nat.le_refl _) ?_
              have hw138 : (decide ((hrI (xt xs) xs.length ((fgS (xt xs) xs.length 3 false (at9 + 1)).2.2)) = nI 47)) = true := hw9
              obtain ⟨hP, hD⟩ := re_PD (w := (RDW G rh rd sh (if (hrI (xt xs) xs.length ((fgS (xt xs) xs.length 3 false (at9 + 1)).2.2)) = nI 47 then ((fgS (xt xs) xs.length 3 false (at9 + 1)).2.2) + 1 else ((fgS (xt xs) xs.length 3 false (at9 + 1)).2.2)) mn9 (va_up lt9 mn9 114) (va_up nu9 (2 * mn9 + 0) (fgS (xt xs) xs.length 3 false (at9 + 1)).1) sg9 ++ SBB G sh sz)) hP hD [2, 3, 4, 5, 0, 1] (by decide) rfl
              have hs7 : hrI (xt xs) xs.length (fgS (xt xs) xs.length 3 false (at9 + 1)).2.2 = nI 47 := of_decide_eq_true hw138
              have hlt7 := hrI_lt hs7 (by decide)
              rw [show (if (hrI (xt xs) xs.length ((fgS (xt xs) xs.length 3 false (at9 + 1)).2.2)) = nI 47 then ((fgS (xt xs) xs.length 3 false (at9 + 1)).2.2) + 1 else ((fgS (xt xs) xs.length 3 false (at9 + 1)).2.2)) = ((fgS (xt xs) xs.length 3 false (at9 + 1)).2.2 + 1) from if_pos (of_decide_eq_true hw138)] at hP hD
              refine lv_aload_n hx hb dX4_order_141 rfl (lv_at hl 0 rfl) ?_
              refine lv_iconst (v := nI 1) hx hb dX4_order_142 (by decide) ?_
              refine lv_iconst (v := nI 1) hx hb dX4_order_143 (by decide) ?_
              refine callXVv (As := [.int (nI 1), .int (nI 1)]) (rest := []) (wc := (RDW G rh rd sh ((fgS (xt xs) xs.length 3 false (at9 + 1)).2.2 + 1) mn9 (va_up lt9 mn9 114) (va_up nu9 (2 * mn9 + 0) (fgS (xt xs) xs.length 3 false (at9 + 1)).1) sg9 ++ SBB G sh sz)) (wr := ([] : va_W)) ⟨hx, hb, hml, hown, hts⟩ (m_X4_number l G rh rd sh ((fgS (xt xs) xs.length 3 false (at9 + 1)).2.2 + 1) mn9 (va_up lt9 mn9 114) (va_up nu9 (2 * mn9 + 0) (fgS (xt xs) xs.length 3 false (at9 + 1)).1) sg9 sz xs 1 1 (by first | assumption | omega) (show _ + 1 ≤ xs.length by omega) (by first | assumption | omega) (by first | assumption | omega) (by first | assumption | omega) (by first | assumption | omega)) (cwV 2 hts (lw_V q1572 q1574 qs29 q97 q1575) rfl rfl rfl (by decide +kernel) ⟨Nat.le_of_ble_eq_true rfl, Nat.le_of_ble_eq_true rfl⟩) hK hZ hA hP hD hS [0, 1, 2, 3, 4, 5] [] rfl rfl (by decide) (by decide) (by decide) 0 3 rfl rfl rfl hl.1 (Nat.le_of_ble_eq_true rfl) ⟨Nat.le_of_ble_eq_true rfl, Nat.le_of_ble_eq_true rfl⟩ rfl dX4_order_144 (fun ce9 q9 u9 H locs hw9 hP hD hS hce hcv hcl => ?_) (fun u9 H locs hw9 hP hD hS => ?_)
              · skip
                have hx144 : (fgS (xt xs) xs.length 1 false ((fgS (xt xs) xs.length 3 false (at9 + 1)).2.2 + 1)).2.1 = true := hw9
                have hP : va_P G.1 CL (RDW G rh rd sh ((fgS (xt xs) xs.length 3 false (at9 + 1)).2.2 + 1) mn9 (va_up lt9 mn9 114) (va_up nu9 (2 * mn9 + 0) (fgS (xt xs) xs.length 3 false (at9 + 1)).1) sg9 ++ SBB G sh sz ++ FTW G q9 (nI ((fgS (xt xs) xs.length 3 false (at9 + 1)).2.2 + 1))) _ := hP
                have hD : va_D A (RDW G rh rd sh ((fgS (xt xs) xs.length 3 false (at9 + 1)).2.2 + 1) mn9 (va_up lt9 mn9 114) (va_up nu9 (2 * mn9 + 0) (fgS (xt xs) xs.length 3 false (at9 + 1)).1) sg9 ++ SBB G sh sz ++ FTW G q9 (nI ((fgS (xt xs) xs.length 3 false (at9 + 1)).2.2 + 1))) := hD
                have hcl : s.vm.findClass RX8 = some ce9.cls := hcl
                have e_r : (nI ((fgS (xt xs) xs.length 3 false (at9 + 1)).2.2 + 1)) = (nI (ordP (xt xs) xs.length at9).2.1) := (congrArg nI (or_r3 hc hw128 hs7 hx144).2.symm)
                try rw [e_r] at hP hD
                subst hQ
                refine vx_widen (k := 4) (n := 28) (Nat.le_of_ble_eq_true rfl) (Nat.le_of_ble_eq_true rfl) ?_
                exact out_x (by rw [hnt]; exact fun x9 hx9 => nomatch hx9) hlk ⟨((fgS (xt xs) xs.length 3 false (at9 + 1)).2.2 + 1), (va_up lt9 mn9 114), (va_up nu9 (2 * mn9 + 0) (fgS (xt xs) xs.length 3 false (at9 + 1)).1), sg9⟩ (or_r3 hc hw128 hs7 hx144).1 hP hD hS hce hcv hcl (Nat.le_refl _) (Nat.le_refl _)
              refine W.widen (k := 4) (n := 28) (Nat.le_refl _) (Nat.le_refl _) ?_
              have hw144 : (fgS (xt xs) xs.length 1 false ((fgS (xt xs) xs.length 3 false (at9 + 1)).2.2 + 1)).2.1 = false := hw9
              have hP : va_P G.1 CL (RDW G rh rd sh ((fgS (xt xs) xs.length 1 false ((fgS (xt xs) xs.length 3 false (at9 + 1)).2.2 + 1)).2.2) mn9 (va_up lt9 mn9 114) (va_up (va_up nu9 (2 * mn9 + 0) (fgS (xt xs) xs.length 3 false (at9 + 1)).1) (2 * mn9 + 1) (fgS (xt xs) xs.length 1 false ((fgS (xt xs) xs.length 3 false (at9 + 1)).2.2 + 1)).1) sg9 ++ SBB G sh sz) _ := hP
              have hD : va_D A (RDW G rh rd sh ((fgS (xt xs) xs.length 1 false ((fgS (xt xs) xs.length 3 false (at9 + 1)).2.2 + 1)).2.2) mn9 (va_up lt9 mn9 114) (va_up (va_up nu9 (2 * mn9 + 0) (fgS (xt xs) xs.length 3 false (at9 + 1)).1) (2 * mn9 + 1) (fgS (xt xs) xs.length 1 false ((fgS (xt xs) xs.length 3 false (at9 + 1)).2.2 + 1)).1) sg9 ++ SBB G sh sz) := hD
              refine lv_aload_n hx hb dX4_order_147 rfl (lv_at hl 0 rfl) ?_
              refine lv_dup hx hb dX4_order_148 rfl ?_
              refine va_get (D := G.1) (ci := 3) (v := .int (nI mn9)) (C := RX4) (T := TX4) (N := 6) hx hb hts in_X4 hown hK hP 0 rfl rfl 2 (by decide) (hts _ q275) (fun _ h9 => h9) rfl dX4_order_149 ?_
              refine lv_iconst (v := nI 1) hx hb dX4_order_152 (by decide) ?_
              refine n_iadd hx hb dX4_order_153 ?_
              refine va_put (D := G.1) (ci := 3) (v := .int (nI (mn9 + 1))) (ty := .int) (C := RX4) (T := TX4) (N := 6) hx hb hts in_X4 tyX4 tyX4_ok nmX4 hown hK hP hD hS 0 rfl rfl 2 (by decide) (hts _ q275) (fun _ h9 => h9) rfl (by decide +kernel) rfl rfl (Nat.le_of_ble_eq_true rfl) dX4_order_154 (fun H locs hP hD hS => ?_)
              have hP : va_P G.1 CL (RDW G rh rd sh ((fgS (xt xs) xs.length 1 false ((fgS (xt xs) xs.length 3 false (at9 + 1)).2.2 + 1)).2.2) (mn9 + 1) (va_up lt9 mn9 114) (va_up (va_up nu9 (2 * mn9 + 0) (fgS (xt xs) xs.length 3 false (at9 + 1)).1) (2 * mn9 + 1) (fgS (xt xs) xs.length 1 false ((fgS (xt xs) xs.length 3 false (at9 + 1)).2.2 + 1)).1) sg9 ++ SBB G sh sz) _ := hP
              have hD : va_D A (RDW G rh rd sh ((fgS (xt xs) xs.length 1 false ((fgS (xt xs) xs.length 3 false (at9 + 1)).2.2 + 1)).2.2) (mn9 + 1) (va_up lt9 mn9 114) (va_up (va_up nu9 (2 * mn9 + 0) (fgS (xt xs) xs.length 3 false (at9 + 1)).1) (2 * mn9 + 1) (fgS (xt xs) xs.length 1 false ((fgS (xt xs) xs.length 3 false (at9 + 1)).2.2 + 1)).1) sg9 ++ SBB G sh sz) := hD
              have e_at_ : (fgS (xt xs) xs.length 1 false ((fgS (xt xs) xs.length 3 false (at9 + 1)).2.2 + 1)).2.2 = (ordP (xt xs) xs.length at9).2.1 := (by rw [or_r4 hc hw128 hs7 hw144])
              rw [e_at_] at hP hD
              subst hQ
              refine vx_ret ?_
              exact ret_v hx hb hr hlk (⟨(va_up lt9 mn9 114), (va_up (va_up nu9 (2 * mn9 + 0) (fgS (xt xs) xs.length 3 false (at9 + 1)).1) (2 * mn9 + 1) (fgS (xt xs) xs.length 1 false ((fgS (xt xs) xs.length 3 false (at9 + 1)).2.2 + 1)).1), sg9⟩) (by rw [or_r4 hc hw128 hs7 hw144]; exact ⟨rfl, hold_2 hc (by decide) (by decide) (by decide) fgS_v (Nat.lt_trans fgS_v (by decide)), same_2⟩) hP hD hS dX4_order_157
            · skip
              have hc : (hrI (xt xs) xs.length at9) = nI 120 := of_decide_eq_true c103
              have hlt := hrI_lt hc (by decide)
              rw [show (if (hrI (xt xs) xs.length at9) = nI 120 then at9 + 1 else at9) = (at9 + 1) from if_pos (of_decide_eq_true c103)] at hP hD
              rw [show (if (hrI (xt xs) xs.length at9) = nI 120 then va_up lt9 mn9 120 else lt9) = (va_up lt9 mn9 120) from if_pos (of_decide_eq_true c103)] at hP hD
              refine lv_aload_n hx hb dX4_order_106 rfl (lv_at hl 0 rfl) ?_
              refine lv_iconst (v := nI 0) hx hb dX4_order_107 (by decide) ?_
              refine lv_iconst (v := nI 1) hx hb dX4_order_108 (by decide) ?_
              refine callXVv (As := [.int (nI 0), .int (nI 1)]) (rest := []) (wc := (RDW G rh rd sh (at9 + 1) mn9 (va_up lt9 mn9 120) nu9 sg9 ++ SBB G sh sz)) (wr := ([] : va_W)) ⟨hx, hb, hml, hown, hts⟩ (m_X4_number l G rh rd sh (at9 + 1) mn9 (va_up lt9 mn9 120) nu9 sg9 sz xs 0 1 (by first | assumption | omega) (by first | assumption | omega) (by first | assumption | omega) (by first | assumption | omega) (by first | assumption | omega) (by first | assumption | omega)) (cwV 2 hts (lw_V q1572 q1574 qs29 q97 q1575) rfl rfl rfl (by decide +kernel) ⟨Nat.le_of_ble_eq_true rfl, Nat.le_of_ble_eq_true rfl⟩) hK hZ hA hP hD hS [0, 1, 2, 3, 4, 5] [] rfl rfl (by decide) (by decide) (by decide) 0 3 rfl rfl rfl hl.1 (Nat.le_of_ble_eq_true rfl) ⟨Nat.le_of_ble_eq_true rfl, Nat.le_of_ble_eq_true rfl⟩ rfl dX4_order_109 (fun ce9 q9 u9 H locs hw9 hP hD hS hce hcv hcl => ?_) (fun u9 H locs hw9 hP hD hS => ?_)
              · skip
                have hx109 : (fgS (xt xs) xs.length 1 false (at9 + 1)).2.1 = true := hw9
                have hP : va_P G.1 CL (RDW G rh rd sh (at9 + 1) mn9 (va_up lt9 mn9 120) nu9 sg9 ++ SBB G sh sz ++ FTW G q9 (nI (at9 + 1))) _ := hP
                have hD : va_D A (RDW G rh rd sh (at9 + 1) mn9 (va_up lt9 mn9 120) nu9 sg9 ++ SBB G sh sz ++ FTW G q9 (nI (at9 + 1))) := hD
                have hcl : s.vm.findClass RX8 = some ce9.cls := hcl
                have e_r : (nI (at9 + 1)) = (nI (ordP (xt xs) xs.length at9).2.1) := (congrArg nI (or_x1 hc hx109).2.symm)
                try rw [e_r] at hP hD
                subst hQ
                refine vx_widen (k := 4) (n := 28) (Nat.le_of_ble_eq_true rfl) (Nat.le_of_ble_eq_true rfl) ?_
                exact out_x (by rw [hnt]; exact fun x9 hx9 => nomatch hx9) hlk ⟨(at9 + 1), (va_up lt9 mn9 120), nu9, sg9⟩ (or_x1 hc hx109).1 hP hD hS hce hcv hcl (Nat.le_refl _) (Nat.le_refl _)
              refine W.widen (k := 1) (n := 7) (Nat.le_refl _) (Nat.le_refl _) ?_
              have hw109 : (fgS (xt xs) xs.length 1 false (at9 + 1)).2.1 = false := hw9
              have hP : va_P G.1 CL (RDW G rh rd sh ((fgS (xt xs) xs.length 1 false (at9 + 1)).2.2) mn9 (va_up lt9 mn9 120) (va_up nu9 (2 * mn9 + 0) (fgS (xt xs) xs.length 1 false (at9 + 1)).1) sg9 ++ SBB G sh sz) _ := hP
              have hD : va_D A (RDW G rh rd sh ((fgS (xt xs) xs.length 1 false (at9 + 1)).2.2) mn9 (va_up lt9 mn9 120) (va_up nu9 (2 * mn9 + 0) (fgS (xt xs) xs.length 1 false (at9 + 1)).1) sg9 ++ SBB G sh sz) := hD
              refine lv_goto (tgt := 147) hx hb dX4_order_112 (by decide) ?_
              refine lv_aload_n hx hb dX4_order_147 rfl (lv_at hl 0 rfl) ?_
              refine lv_dup hx hb dX4_order_148 rfl ?_
              refine va_get (D := G.1) (ci := 3) (v := .int (nI mn9)) (C := RX4) (T := TX4) (N := 6) hx hb hts in_X4 hown hK hP 0 rfl rfl 2 (by decide) (hts _ q275) (fun _ h9 => h9) rfl dX4_order_149 ?_
              refine lv_iconst (v := nI 1) hx hb dX4_order_152 (by decide) ?_
              refine n_iadd hx hb dX4_order_153 ?_
              refine va_put (D := G.1) (ci := 3) (v := .int (nI (mn9 + 1))) (ty := .int) (C := RX4) (T := TX4) (N := 6) hx hb hts in_X4 tyX4 tyX4_ok nmX4 hown hK hP hD hS 0 rfl rfl 2 (by decide) (hts _ q275) (fun _ h9 => h9) rfl (by decide +kernel) rfl rfl (Nat.le_of_ble_eq_true rfl) dX4_order_154 (fun H locs hP hD hS => ?_)
              have hP : va_P G.1 CL (RDW G rh rd sh ((fgS (xt xs) xs.length 1 false (at9 + 1)).2.2) (mn9 + 1) (va_up lt9 mn9 120) (va_up nu9 (2 * mn9 + 0) (fgS (xt xs) xs.length 1 false (at9 + 1)).1) sg9 ++ SBB G sh sz) _ := hP
              have hD : va_D A (RDW G rh rd sh ((fgS (xt xs) xs.length 1 false (at9 + 1)).2.2) (mn9 + 1) (va_up lt9 mn9 120) (va_up nu9 (2 * mn9 + 0) (fgS (xt xs) xs.length 1 false (at9 + 1)).1) sg9 ++ SBB G sh sz) := hD
              have e_at_ : (fgS (xt xs) xs.length 1 false (at9 + 1)).2.2 = (ordP (xt xs) xs.length at9).2.1 := (by rw [or_x2 hc hw109])
              rw [e_at_] at hP hD
              subst hQ
              refine W.widen (k := 4) (n := 28) (Nat.le_of_ble_eq_true rfl) (Nat.le_of_ble_eq_true rfl) ?_
              refine vx_ret ?_
              exact ret_v hx hb hr hlk (⟨(va_up lt9 mn9 120), (va_up nu9 (2 * mn9 + 0) (fgS (xt xs) xs.length 1 false (at9 + 1)).1), sg9⟩) (by rw [or_x2 hc hw109]; exact ⟨rfl, hold_1 hc (by decide) (Nat.lt_trans fgS_v (by decide)), same_1⟩) hP hD hS dX4_order_157
          · skip
            have hc : (hrI (xt xs) xs.length at9) = nI 116 := of_decide_eq_true c85
            have hlt := hrI_lt hc (by decide)
            rw [show (if (hrI (xt xs) xs.length at9) = nI 116 then at9 + 1 else at9) = (at9 + 1) from if_pos (of_decide_eq_true c85)] at hP hD
            rw [show (if (hrI (xt xs) xs.length at9) = nI 116 then va_up lt9 mn9 116 else lt9) = (va_up lt9 mn9 116) from if_pos (of_decide_eq_true c85)] at hP hD
            refine lv_aload_n hx hb dX4_order_88 rfl (lv_at hl 0 rfl) ?_
            refine lv_iconst (v := nI 0) hx hb dX4_order_89 (by decide) ?_
            refine lv_iconst (v := nI 3) hx hb dX4_order_90 (by decide) ?_
            refine callXVv (As := [.int (nI 0), .int (nI 3)]) (rest := []) (wc := (RDW G rh rd sh (at9 + 1) mn9 (va_up lt9 mn9 116) nu9 sg9 ++ SBB G sh sz)) (wr := ([] : va_W)) ⟨hx, hb, hml, hown, hts⟩ (m_X4_number l G rh rd sh (at9 + 1) mn9 (va_up lt9 mn9 116) nu9 sg9 sz xs 0 3 (by first | assumption | omega) (by first | assumption | omega) (by first | assumption | omega) (by first | assumption | omega) (by first | assumption | omega) (by first | assumption | omega)) (cwV 2 hts (lw_V q1572 q1574 qs29 q97 q1575) rfl rfl rfl (by decide +kernel) ⟨Nat.le_of_ble_eq_true rfl, Nat.le_of_ble_eq_true rfl⟩) hK hZ hA hP hD hS [0, 1, 2, 3, 4, 5] [] rfl rfl (by decide) (by decide) (by decide) 0 3 rfl rfl rfl hl.1 (Nat.le_of_ble_eq_true rfl) ⟨Nat.le_of_ble_eq_true rfl, Nat.le_of_ble_eq_true rfl⟩ rfl dX4_order_91 (fun ce9 q9 u9 H locs hw9 hP hD hS hce hcv hcl => ?_) (fun u9 H locs hw9 hP hD hS => ?_)
            · skip
              have hx91 : (fgS (xt xs) xs.length 3 false (at9 + 1)).2.1 = true := hw9
              have hP : va_P G.1 CL (RDW G rh rd sh (at9 + 1) mn9 (va_up lt9 mn9 116) nu9 sg9 ++ SBB G sh sz ++ FTW G q9 (nI (at9 + 1))) _ := hP
              have hD : va_D A (RDW G rh rd sh (at9 + 1) mn9 (va_up lt9 mn9 116) nu9 sg9 ++ SBB G sh sz ++ FTW G q9 (nI (at9 + 1))) := hD
              have hcl : s.vm.findClass RX8 = some ce9.cls := hcl
              have e_r : (nI (at9 + 1)) = (nI (ordP (xt xs) xs.length at9).2.1) := (congrArg nI (or_t1 hc hx91).2.symm)
              try rw [e_r] at hP hD
              subst hQ
              refine vx_widen (k := 4) (n := 28) (Nat.le_of_ble_eq_true rfl) (Nat.le_of_ble_eq_true rfl) ?_
              exact out_x (by rw [hnt]; exact fun x9 hx9 => nomatch hx9) hlk ⟨(at9 + 1), (va_up lt9 mn9 116), nu9, sg9⟩ (or_t1 hc hx91).1 hP hD hS hce hcv hcl (Nat.le_refl _) (Nat.le_refl _)
            refine W.widen (k := 1) (n := 7) (Nat.le_refl _) (Nat.le_refl _) ?_
            have hw91 : (fgS (xt xs) xs.length 3 false (at9 + 1)).2.1 = false := hw9
            have hP : va_P G.1 CL (RDW G rh rd sh ((fgS (xt xs) xs.length 3 false (at9 + 1)).2.2) mn9 (va_up lt9 mn9 116) (va_up nu9 (2 * mn9 + 0) (fgS (xt xs) xs.length 3 false (at9 + 1)).1) sg9 ++ SBB G sh sz) _ := hP
            have hD : va_D A (RDW G rh rd sh ((fgS (xt xs) xs.length 3 false (at9 + 1)).2.2) mn9 (va_up lt9 mn9 116) (va_up nu9 (2 * mn9 + 0) (fgS (xt xs) xs.length 3 false (at9 + 1)).1) sg9 ++ SBB G sh sz) := hD
            refine lv_goto (tgt := 147) hx hb dX4_order_94 (by decide) ?_
            refine lv_aload_n hx hb dX4_order_147 rfl (lv_at hl 0 rfl) ?_
            refine lv_dup hx hb dX4_order_148 rfl ?_
            refine va_get (D := G.1) (ci := 3) (v := .int (nI mn9)) (C := RX4) (T := TX4) (N := 6) hx hb hts in_X4 hown hK hP 0 rfl rfl 2 (by decide) (hts _ q275) (fun _ h9 => h9) rfl dX4_order_149 ?_
            refine lv_iconst (v := nI 1) hx hb dX4_order_152 (by decide) ?_
            refine n_iadd hx hb dX4_order_153 ?_
            refine va_put (D := G.1) (ci := 3) (v := .int (nI (mn9 + 1))) (ty := .int) (C := RX4) (T := TX4) (N := 6) hx hb hts in_X4 tyX4 tyX4_ok nmX4 hown hK hP hD hS 0 rfl rfl 2 (by decide) (hts _ q275) (fun _ h9 => h9) rfl (by decide +kernel) rfl rfl (Nat.le_of_ble_eq_true rfl) dX4_order_154 (fun H locs hP hD hS => ?_)
            have hP : va_P G.1 CL (RDW G rh rd sh ((fgS (xt xs) xs.length 3 false (at9 + 1)).2.2) (mn9 + 1) (va_up lt9 mn9 116) (va_up nu9 (2 * mn9 + 0) (fgS (xt xs) xs.length 3 false (at9 + 1)).1) sg9 ++ SBB G sh sz) _ := hP
            have hD : va_D A (RDW G rh rd sh ((fgS (xt xs) xs.length 3 false (at9 + 1)).2.2) (mn9 + 1) (va_up lt9 mn9 116) (va_up nu9 (2 * mn9 + 0) (fgS (xt xs) xs.length 3 false (at9 + 1)).1) sg9 ++ SBB G sh sz) := hD
            have e_at_ : (fgS (xt xs) xs.length 3 false (at9 + 1)).2.2 = (ordP (xt xs) xs.length at9).2.1 := (by rw [or_t2 hc hw91])
            rw [e_at_] at hP hD
            subst hQ
            refine W.widen (k := 4) (n := 28) (Nat.le_of_ble_eq_true rfl) (Nat.le_of_ble_eq_true rfl) ?_
            refine vx_ret ?_
            exact ret_v hx hb hr hlk (⟨(va_up lt9 mn9 116), (va_up nu9 (2 * mn9 + 0) (fgS (xt xs) xs.length 3 false (at9 + 1)).1), sg9⟩) (by rw [or_t2 hc hw91]; exact ⟨rfl, hold_1 hc (by decide) fgS_v, same_1⟩) hP hD hS dX4_order_157
        · skip
          have hc : (hrI (xt xs) xs.length at9) = nI 103 := of_decide_eq_true c62
          have hlt := hrI_lt hc (by decide)
          have hpg : (hrI (xt xs) xs.length at9) = nI 112 ∨ (hrI (xt xs) xs.length at9) = nI 103 := Or.inr hc
          have hdc : decide ((hrI (xt xs) xs.length at9) = nI 103) = true := (by rw [hc]; decide)
          rw [show (if (hrI (xt xs) xs.length at9) = nI 103 then at9 + 1 else at9) = (at9 + 1) from if_pos (of_decide_eq_true c62)] at hP hD
          rw [show (if (hrI (xt xs) xs.length at9) = nI 103 then va_up lt9 mn9 103 else lt9) = (va_up lt9 mn9 103) from if_pos (of_decide_eq_true c62)] at hP hD
          refine lv_aload_n hx hb dX4_order_65 rfl (lv_at hl 0 rfl) ?_
          refine lv_iconst (v := nI 0) hx hb dX4_order_66 (by decide) ?_
          refine lv_iconst (v := nI 1) hx hb dX4_order_67 (by decide) ?_
          refine callXVv (As := [.int (nI 0), .int (nI 1)]) (rest := []) (wc := (RDW G rh rd sh (at9 + 1) mn9 (va_up lt9 mn9 103) nu9 sg9 ++ SBB G sh sz)) (wr := ([] : va_W)) ⟨hx, hb, hml, hown, hts⟩ (m_X4_number l G rh rd sh (at9 + 1) mn9 (va_up lt9 mn9 103) nu9 sg9 sz xs 0 1 (by first | assumption | omega) (by first | assumption | omega) (by first | assumption | omega) (by first | assumption | omega) (by first | assumption | omega) (by first | assumption | omega)) (cwV 2 hts (lw_V q1572 q1574 qs29 q97 q1575) rfl rfl rfl (by decide +kernel) ⟨Nat.le_of_ble_eq_true rfl, Nat.le_of_ble_eq_true rfl⟩) hK hZ hA hP hD hS [0, 1, 2, 3, 4, 5] [] rfl rfl (by decide) (by decide) (by decide) 0 3 rfl rfl rfl hl.1 (Nat.le_of_ble_eq_true rfl) ⟨Nat.le_of_ble_eq_true rfl, Nat.le_of_ble_eq_true rfl⟩ rfl dX4_order_68 (fun ce9 q9 u9 H locs hw9 hP hD hS hce hcv hcl => ?_) (fun u9 H locs hw9 hP hD hS => ?_)
          · skip
            have hx68 : (fgS (xt xs) xs.length 1 false (at9 + 1)).2.1 = true := hw9
            have hP : va_P G.1 CL (RDW G rh rd sh (at9 + 1) mn9 (va_up lt9 mn9 103) nu9 sg9 ++ SBB G sh sz ++ FTW G q9 (nI (at9 + 1))) _ := hP
            have hD : va_D A (RDW G rh rd sh (at9 + 1) mn9 (va_up lt9 mn9 103) nu9 sg9 ++ SBB G sh sz ++ FTW G q9 (nI (at9 + 1))) := hD
            have hcl : s.vm.findClass RX8 = some ce9.cls := hcl
            have e_r : (nI (at9 + 1)) = (nI (ordP (xt xs) xs.length at9).2.1) := (congrArg nI (or_pg1 hpg hx68).2.symm)
            try rw [e_r] at hP hD
            subst hQ
            refine vx_widen (k := 4) (n := 28) (Nat.le_of_ble_eq_true rfl) (Nat.le_of_ble_eq_true rfl) ?_
            exact out_x (by rw [hnt]; exact fun x9 hx9 => nomatch hx9) hlk ⟨(at9 + 1), (va_up lt9 mn9 103), nu9, sg9⟩ (or_pg1 hpg hx68).1 hP hD hS hce hcv hcl (Nat.le_refl _) (Nat.le_refl _)
          refine W.widen (k := 1) (n := 7) (Nat.le_refl _) (Nat.le_refl _) ?_
          have hw68 : (fgS (xt xs) xs.length 1 false (at9 + 1)).2.1 = false := hw9
          have hP : va_P G.1 CL (RDW G rh rd sh ((fgS (xt xs) xs.length 1 false (at9 + 1)).2.2) mn9 (va_up lt9 mn9 103) (va_up nu9 (2 * mn9 + 0) (fgS (xt xs) xs.length 1 false (at9 + 1)).1) sg9 ++ SBB G sh sz) _ := hP
          have hD : va_D A (RDW G rh rd sh ((fgS (xt xs) xs.length 1 false (at9 + 1)).2.2) mn9 (va_up lt9 mn9 103) (va_up nu9 (2 * mn9 + 0) (fgS (xt xs) xs.length 1 false (at9 + 1)).1) sg9 ++ SBB G sh sz) := hD
          refine lv_aload_n hx hb dX4_order_71 rfl (lv_at hl 0 rfl) ?_
          refine lv_iconst (v := nI 1) hx hb dX4_order_72 (by decide) ?_
          refine callXVv (As := [.int (nI 1)]) (rest := []) (wc := (RDW G rh rd sh ((fgS (xt xs) xs.length 1 false (at9 + 1)).2.2) mn9 (va_up lt9 mn9 103) (va_up nu9 (2 * mn9 + 0) (fgS (xt xs) xs.length 1 false (at9 + 1)).1) sg9 ++ SBB G sh sz)) (wr := ([] : va_W)) ⟨hx, hb, hml, hown, hts⟩ (m_X4_sign l G rh rd sh ((fgS (xt xs) xs.length 1 false (at9 + 1)).2.2) mn9 (va_up lt9 mn9 103) (va_up nu9 (2 * mn9 + 0) (fgS (xt xs) xs.length 1 false (at9 + 1)).1) sg9 sz xs true (by first | assumption | omega) (fgS_le (m := 1) (show at9 + 1 ≤ xs.length by omega)).2 (by first | assumption | omega) (by first | assumption | omega)) (cwV 1 hts (lw_V q1600 q1602 qs31 q97 q1603) rfl rfl rfl (by decide +kernel) ⟨Nat.le_of_ble_eq_true rfl, Nat.le_of_ble_eq_true rfl⟩) hK hZ hA hP hD hS [0, 1, 2, 3, 4, 5] [] rfl rfl (by decide) (by decide) (by decide) 0 3 rfl rfl rfl hl.1 (Nat.le_of_ble_eq_true rfl) ⟨Nat.le_of_ble_eq_true rfl, Nat.le_of_ble_eq_true rfl⟩ rfl dX4_order_73 (fun ce9 q9 u9 H locs hw9 hP hD hS hce hcv hcl => ?_) (fun u9 H locs hw9 hP hD hS => ?_)
          · skip
            have hx73 : (sgW (xt xs) xs.length true false ((fgS (xt xs) xs.length 1 false (at9 + 1)).2.2)) = true := hw9
            have hP : va_P G.1 CL (RDW G rh rd sh ((fgS (xt xs) xs.length 1 false (at9 + 1)).2.2) mn9 (va_up lt9 mn9 103) (va_up nu9 (2 * mn9 + 0) (fgS (xt xs) xs.length 1 false (at9 + 1)).1) sg9 ++ SBB G sh sz ++ FTW G q9 (nI ((fgS (xt xs) xs.length 1 false (at9 + 1)).2.2))) _ := hP
            have hD : va_D A (RDW G rh rd sh ((fgS (xt xs) xs.length 1 false (at9 + 1)).2.2) mn9 (va_up lt9 mn9 103) (va_up nu9 (2 * mn9 + 0) (fgS (xt xs) xs.length 1 false (at9 + 1)).1) sg9 ++ SBB G sh sz ++ FTW G q9 (nI ((fgS (xt xs) xs.length 1 false (at9 + 1)).2.2))) := hD
            have hcl : s.vm.findClass RX8 = some ce9.cls := hcl
            have e_r : (nI ((fgS (xt xs) xs.length 1 false (at9 + 1)).2.2)) = (nI (ordP (xt xs) xs.length at9).2.1) := (congrArg nI (or_pg2 hpg hw68 (by rw [hdc]; exact hx73)).2.symm)
            try rw [e_r] at hP hD
            subst hQ
            refine vx_widen (k := 4) (n := 28) (Nat.le_of_ble_eq_true rfl) (Nat.le_of_ble_eq_true rfl) ?_
            exact out_x (by rw [hnt]; exact fun x9 hx9 => nomatch hx9) hlk ⟨(fgS (xt xs) xs.length 1 false (at9 + 1)).2.2, (va_up lt9 mn9 103), (va_up nu9 (2 * mn9 + 0) (fgS (xt xs) xs.length 1 false (at9 + 1)).1), sg9⟩ (or_pg2 hpg hw68 (by rw [hdc]; exact hx73)).1 hP hD hS hce hcv hcl (Nat.le_refl _) (Nat.le_refl _)
          refine W.widen (k := 2) (n := 14) (Nat.le_refl _) (Nat.le_refl _) ?_
          have hw73 : (sgW (xt xs) xs.length true false ((fgS (xt xs) xs.length 1 false (at9 + 1)).2.2)) = false ∧ ((fgS (xt xs) xs.length 1 false (at9 + 1)).2.2) < xs.length := hw9
          have hP : va_P G.1 CL (RDW G rh rd sh (((fgS (xt xs) xs.length 1 false (at9 + 1)).2.2) + 1) mn9 (va_up lt9 mn9 103) (va_up nu9 (2 * mn9 + 0) (fgS (xt xs) xs.length 1 false (at9 + 1)).1) (va_up sg9 mn9 (xs.getD ((fgS (xt xs) xs.length 1 false (at9 + 1)).2.2) 0)) ++ SBB G sh sz) _ := hP
          have hD : va_D A (RDW G rh rd sh (((fgS (xt xs) xs.length 1 false (at9 + 1)).2.2) + 1) mn9 (va_up lt9 mn9 103) (va_up nu9 (2 * mn9 + 0) (fgS (xt xs) xs.length 1 false (at9 + 1)).1) (va_up sg9 mn9 (xs.getD ((fgS (xt xs) xs.length 1 false (at9 + 1)).2.2) 0)) ++ SBB G sh sz) := hD
          refine lv_goto (tgt := 147) hx hb dX4_order_76 (by decide) ?_
          refine lv_aload_n hx hb dX4_order_147 rfl (lv_at hl 0 rfl) ?_
          refine lv_dup hx hb dX4_order_148 rfl ?_
          refine va_get (D := G.1) (ci := 3) (v := .int (nI mn9)) (C := RX4) (T := TX4) (N := 6) hx hb hts in_X4 hown hK hP 0 rfl rfl 2 (by decide) (hts _ q275) (fun _ h9 => h9) rfl dX4_order_149 ?_
          refine lv_iconst (v := nI 1) hx hb dX4_order_152 (by decide) ?_
          refine n_iadd hx hb dX4_order_153 ?_
          refine va_put (D := G.1) (ci := 3) (v := .int (nI (mn9 + 1))) (ty := .int) (C := RX4) (T := TX4) (N := 6) hx hb hts in_X4 tyX4 tyX4_ok nmX4 hown hK hP hD hS 0 rfl rfl 2 (by decide) (hts _ q275) (fun _ h9 => h9) rfl (by decide +kernel) rfl rfl (Nat.le_of_ble_eq_true rfl) dX4_order_154 (fun H locs hP hD hS => ?_)
          have hP : va_P G.1 CL (RDW G rh rd sh (((fgS (xt xs) xs.length 1 false (at9 + 1)).2.2) + 1) (mn9 + 1) (va_up lt9 mn9 103) (va_up nu9 (2 * mn9 + 0) (fgS (xt xs) xs.length 1 false (at9 + 1)).1) (va_up sg9 mn9 (xs.getD ((fgS (xt xs) xs.length 1 false (at9 + 1)).2.2) 0)) ++ SBB G sh sz) _ := hP
          have hD : va_D A (RDW G rh rd sh (((fgS (xt xs) xs.length 1 false (at9 + 1)).2.2) + 1) (mn9 + 1) (va_up lt9 mn9 103) (va_up nu9 (2 * mn9 + 0) (fgS (xt xs) xs.length 1 false (at9 + 1)).1) (va_up sg9 mn9 (xs.getD ((fgS (xt xs) xs.length 1 false (at9 + 1)).2.2) 0)) ++ SBB G sh sz) := hD
          have e_at_ : (((fgS (xt xs) xs.length 1 false (at9 + 1)).2.2) + 1) = (ordP (xt xs) xs.length at9).2.1 := (by rw [or_pg3 hpg hw68 (by rw [hdc]; exact hw73.1)])
          rw [e_at_] at hP hD
          subst hQ
          refine W.widen (k := 4) (n := 28) (Nat.le_of_ble_eq_true rfl) (Nat.le_of_ble_eq_true rfl) ?_
          refine vx_ret ?_
          exact ret_v hx hb hr hlk (⟨(va_up lt9 mn9 103), (va_up nu9 (2 * mn9 + 0) (fgS (xt xs) xs.length 1 false (at9 + 1)).1), (va_up sg9 mn9 (xs.getD ((fgS (xt xs) xs.length 1 false (at9 + 1)).2.2) 0))⟩) (by rw [or_pg3 hpg hw68 (by rw [hdc]; exact hw73.1)]; exact ⟨rfl, hold_s hc (by decide) (Nat.lt_trans fgS_v (by decide)) (hz.2.2 _) (hrI_at (t := xt xs) hw73.2), same_s⟩) hP hD hS dX4_order_157
      · skip
        have hc : (hrI (xt xs) xs.length at9) = nI 112 := of_decide_eq_true c39
        have hlt := hrI_lt hc (by decide)
        have hpg : (hrI (xt xs) xs.length at9) = nI 112 ∨ (hrI (xt xs) xs.length at9) = nI 103 := Or.inl hc
        have hdc : decide ((hrI (xt xs) xs.length at9) = nI 103) = false := (by rw [hc]; decide)
        rw [show (if (hrI (xt xs) xs.length at9) = nI 112 then at9 + 1 else at9) = (at9 + 1) from if_pos (of_decide_eq_true c39)] at hP hD
        rw [show (if (hrI (xt xs) xs.length at9) = nI 112 then va_up lt9 mn9 112 else lt9) = (va_up lt9 mn9 112) from if_pos (of_decide_eq_true c39)] at hP hD
        refine lv_aload_n hx hb dX4_order_42 rfl (lv_at hl 0 rfl) ?_
        refine lv_iconst (v := nI 0) hx hb dX4_order_43 (by decide) ?_
        refine lv_iconst (v := nI 1) hx hb dX4_order_44 (by decide) ?_
        refine callXVv (As := [.int (nI 0), .int (nI 1)]) (rest := []) (wc := (RDW G rh rd sh (at9 + 1) mn9 (va_up lt9 mn9 112) nu9 sg9 ++ SBB G sh sz)) (wr := ([] : va_W)) ⟨hx, hb, hml, hown, hts⟩ (m_X4_number l G rh rd sh (at9 + 1) mn9 (va_up lt9 mn9 112) nu9 sg9 sz xs 0 1 (by first | assumption | omega) (by first | assumption | omega) (by first | assumption | omega) (by first | assumption | omega) (by first | assumption | omega) (by first | assumption | omega)) (cwV 2 hts (lw_V q1572 q1574 qs29 q97 q1575) rfl rfl rfl (by decide +kernel) ⟨Nat.le_of_ble_eq_true rfl, Nat.le_of_ble_eq_true rfl⟩) hK hZ hA hP hD hS [0, 1, 2, 3, 4, 5] [] rfl rfl (by decide) (by decide) (by decide) 0 3 rfl rfl rfl hl.1 (Nat.le_of_ble_eq_true rfl) ⟨Nat.le_of_ble_eq_true rfl, Nat.le_of_ble_eq_true rfl⟩ rfl dX4_order_45 (fun ce9 q9 u9 H locs hw9 hP hD hS hce hcv hcl => ?_) (fun u9 H locs hw9 hP hD hS => ?_)
        · skip
          have hx45 : (fgS (xt xs) xs.length 1 false (at9 + 1)).2.1 = true := hw9
          have hP : va_P G.1 CL (RDW G rh rd sh (at9 + 1) mn9 (va_up lt9 mn9 112) nu9 sg9 ++ SBB G sh sz ++ FTW G q9 (nI (at9 + 1))) _ := hP
          have hD : va_D A (RDW G rh rd sh (at9 + 1) mn9 (va_up lt9 mn9 112) nu9 sg9 ++ SBB G sh sz ++ FTW G q9 (nI (at9 + 1))) := hD
          have hcl : s.vm.findClass RX8 = some ce9.cls := hcl
          have e_r : (nI (at9 + 1)) = (nI (ordP (xt xs) xs.length at9).2.1) := (congrArg nI (or_pg1 hpg hx45).2.symm)
          try rw [e_r] at hP hD
          subst hQ
          refine vx_widen (k := 4) (n := 28) (Nat.le_of_ble_eq_true rfl) (Nat.le_of_ble_eq_true rfl) ?_
          exact out_x (by rw [hnt]; exact fun x9 hx9 => nomatch hx9) hlk ⟨(at9 + 1), (va_up lt9 mn9 112), nu9, sg9⟩ (or_pg1 hpg hx45).1 hP hD hS hce hcv hcl (Nat.le_refl _) (Nat.le_refl _)
        refine W.widen (k := 1) (n := 7) (Nat.le_refl _) (Nat.le_refl _) ?_
        have hw45 : (fgS (xt xs) xs.length 1 false (at9 + 1)).2.1 = false := hw9
        have hP : va_P G.1 CL (RDW G rh rd sh ((fgS (xt xs) xs.length 1 false (at9 + 1)).2.2) mn9 (va_up lt9 mn9 112) (va_up nu9 (2 * mn9 + 0) (fgS (xt xs) xs.length 1 false (at9 + 1)).1) sg9 ++ SBB G sh sz) _ := hP
        have hD : va_D A (RDW G rh rd sh ((fgS (xt xs) xs.length 1 false (at9 + 1)).2.2) mn9 (va_up lt9 mn9 112) (va_up nu9 (2 * mn9 + 0) (fgS (xt xs) xs.length 1 false (at9 + 1)).1) sg9 ++ SBB G sh sz) := hD
        refine lv_aload_n hx hb dX4_order_48 rfl (lv_at hl 0 rfl) ?_
        refine lv_iconst (v := nI 0) hx hb dX4_order_49 (by decide) ?_
        refine callXVv (As := [.int (nI 0)]) (rest := []) (wc := (RDW G rh rd sh ((fgS (xt xs) xs.length 1 false (at9 + 1)).2.2) mn9 (va_up lt9 mn9 112) (va_up nu9 (2 * mn9 + 0) (fgS (xt xs) xs.length 1 false (at9 + 1)).1) sg9 ++ SBB G sh sz)) (wr := ([] : va_W)) ⟨hx, hb, hml, hown, hts⟩ (m_X4_sign l G rh rd sh ((fgS (xt xs) xs.length 1 false (at9 + 1)).2.2) mn9 (va_up lt9 mn9 112) (va_up nu9 (2 * mn9 + 0) (fgS (xt xs) xs.length 1 false (at9 + 1)).1) sg9 sz xs false (by first | assumption | omega) (fgS_le (m := 1) (show at9 + 1 ≤ xs.length by omega)).2 (by first | assumption | omega) (by first | assumption | omega)) (cwV 1 hts (lw_V q1600 q1602 qs31 q97 q1603) rfl rfl rfl (by decide +kernel) ⟨Nat.le_of_ble_eq_true rfl, Nat.le_of_ble_eq_true rfl⟩) hK hZ hA hP hD hS [0, 1, 2, 3, 4, 5] [] rfl rfl (by decide) (by decide) (by decide) 0 3 rfl rfl rfl hl.1 (Nat.le_of_ble_eq_true rfl) ⟨Nat.le_of_ble_eq_true rfl, Nat.le_of_ble_eq_true rfl⟩ rfl dX4_order_50 (fun ce9 q9 u9 H locs hw9 hP hD hS hce hcv hcl => ?_) (fun u9 H locs hw9 hP hD hS => ?_)
        · skip
          have hx50 : (sgW (xt xs) xs.length false false ((fgS (xt xs) xs.length 1 false (at9 + 1)).2.2)) = true := hw9
          have hP : va_P G.1 CL (RDW G rh rd sh ((fgS (xt xs) xs.length 1 false (at9 + 1)).2.2) mn9 (va_up lt9 mn9 112) (va_up nu9 (2 * mn9 + 0) (fgS (xt xs) xs.length 1 false (at9 + 1)).1) sg9 ++ SBB G sh sz ++ FTW G q9 (nI ((fgS (xt xs) xs.length 1 false (at9 + 1)).2.2))) _ := hP
          have hD : va_D A (RDW G rh rd sh ((fgS (xt xs) xs.length 1 false (at9 + 1)).2.2) mn9 (va_up lt9 mn9 112) (va_up nu9 (2 * mn9 + 0) (fgS (xt xs) xs.length 1 false (at9 + 1)).1) sg9 ++ SBB G sh sz ++ FTW G q9 (nI ((fgS (xt xs) xs.length 1 false (at9 + 1)).2.2))) := hD
          have hcl : s.vm.findClass RX8 = some ce9.cls := hcl
          have e_r : (nI ((fgS (xt xs) xs.length 1 false (at9 + 1)).2.2)) = (nI (ordP (xt xs) xs.length at9).2.1) := (congrArg nI (or_pg2 hpg hw45 (by rw [hdc]; exact hx50)).2.symm)
          try rw [e_r] at hP hD
          subst hQ
          refine vx_widen (k := 4) (n := 28) (Nat.le_of_ble_eq_true rfl) (Nat.le_of_ble_eq_true rfl) ?_
          exact out_x (by rw [hnt]; exact fun x9 hx9 => nomatch hx9) hlk ⟨(fgS (xt xs) xs.length 1 false (at9 + 1)).2.2, (va_up lt9 mn9 112), (va_up nu9 (2 * mn9 + 0) (fgS (xt xs) xs.length 1 false (at9 + 1)).1), sg9⟩ (or_pg2 hpg hw45 (by rw [hdc]; exact hx50)).1 hP hD hS hce hcv hcl (Nat.le_refl _) (Nat.le_refl _)
        refine W.widen (k := 2) (n := 14) (Nat.le_refl _) (Nat.le_refl _) ?_
        have hw50 : (sgW (xt xs) xs.length false false ((fgS (xt xs) xs.length 1 false (at9 + 1)).2.2)) = false ∧ ((fgS (xt xs) xs.length 1 false (at9 + 1)).2.2) < xs.length := hw9
        have hP : va_P G.1 CL (RDW G rh rd sh (((fgS (xt xs) xs.length 1 false (at9 + 1)).2.2) + 1) mn9 (va_up lt9 mn9 112) (va_up nu9 (2 * mn9 + 0) (fgS (xt xs) xs.length 1 false (at9 + 1)).1) (va_up sg9 mn9 (xs.getD ((fgS (xt xs) xs.length 1 false (at9 + 1)).2.2) 0)) ++ SBB G sh sz) _ := hP
        have hD : va_D A (RDW G rh rd sh (((fgS (xt xs) xs.length 1 false (at9 + 1)).2.2) + 1) mn9 (va_up lt9 mn9 112) (va_up nu9 (2 * mn9 + 0) (fgS (xt xs) xs.length 1 false (at9 + 1)).1) (va_up sg9 mn9 (xs.getD ((fgS (xt xs) xs.length 1 false (at9 + 1)).2.2) 0)) ++ SBB G sh sz) := hD
        refine lv_goto (tgt := 147) hx hb dX4_order_53 (by decide) ?_
        refine lv_aload_n hx hb dX4_order_147 rfl (lv_at hl 0 rfl) ?_
        refine lv_dup hx hb dX4_order_148 rfl ?_
        refine va_get (D := G.1) (ci := 3) (v := .int (nI mn9)) (C := RX4) (T := TX4) (N := 6) hx hb hts in_X4 hown hK hP 0 rfl rfl 2 (by decide) (hts _ q275) (fun _ h9 => h9) rfl dX4_order_149 ?_
        refine lv_iconst (v := nI 1) hx hb dX4_order_152 (by decide) ?_
        refine n_iadd hx hb dX4_order_153 ?_
        refine va_put (D := G.1) (ci := 3) (v := .int (nI (mn9 + 1))) (ty := .int) (C := RX4) (T := TX4) (N := 6) hx hb hts in_X4 tyX4 tyX4_ok nmX4 hown hK hP hD hS 0 rfl rfl 2 (by decide) (hts _ q275) (fun _ h9 => h9) rfl (by decide +kernel) rfl rfl (Nat.le_of_ble_eq_true rfl) dX4_order_154 (fun H locs hP hD hS => ?_)
        have hP : va_P G.1 CL (RDW G rh rd sh (((fgS (xt xs) xs.length 1 false (at9 + 1)).2.2) + 1) (mn9 + 1) (va_up lt9 mn9 112) (va_up nu9 (2 * mn9 + 0) (fgS (xt xs) xs.length 1 false (at9 + 1)).1) (va_up sg9 mn9 (xs.getD ((fgS (xt xs) xs.length 1 false (at9 + 1)).2.2) 0)) ++ SBB G sh sz) _ := hP
        have hD : va_D A (RDW G rh rd sh (((fgS (xt xs) xs.length 1 false (at9 + 1)).2.2) + 1) (mn9 + 1) (va_up lt9 mn9 112) (va_up nu9 (2 * mn9 + 0) (fgS (xt xs) xs.length 1 false (at9 + 1)).1) (va_up sg9 mn9 (xs.getD ((fgS (xt xs) xs.length 1 false (at9 + 1)).2.2) 0)) ++ SBB G sh sz) := hD
        have e_at_ : (((fgS (xt xs) xs.length 1 false (at9 + 1)).2.2) + 1) = (ordP (xt xs) xs.length at9).2.1 := (by rw [or_pg3 hpg hw45 (by rw [hdc]; exact hw50.1)])
        rw [e_at_] at hP hD
        subst hQ
        refine W.widen (k := 4) (n := 28) (Nat.le_of_ble_eq_true rfl) (Nat.le_of_ble_eq_true rfl) ?_
        refine vx_ret ?_
        exact ret_v hx hb hr hlk (⟨(va_up lt9 mn9 112), (va_up nu9 (2 * mn9 + 0) (fgS (xt xs) xs.length 1 false (at9 + 1)).1), (va_up sg9 mn9 (xs.getD ((fgS (xt xs) xs.length 1 false (at9 + 1)).2.2) 0))⟩) (by rw [or_pg3 hpg hw45 (by rw [hdc]; exact hw50.1)]; exact ⟨rfl, hold_s hc (by decide) (Nat.lt_trans fgS_v (by decide)) (hz.2.2 _) (hrI_at (t := xt xs) hw50.2), same_s⟩) hP hD hS dX4_order_157
    · skip
      have hc : (hrI (xt xs) xs.length at9) = nI 115 := of_decide_eq_true c15
      have hlt := hrI_lt hc (by decide)
      have hbs : (hrI (xt xs) xs.length at9) = nI 98 ∨ (hrI (xt xs) xs.length at9) = nI 115 := Or.inr hc
      rw [show (if (hrI (xt xs) xs.length at9) = nI 115 then at9 + 1 else at9) = (at9 + 1) from if_pos (of_decide_eq_true c15)] at hP hD
      rw [show (if (hrI (xt xs) xs.length at9) = nI 115 then va_up lt9 mn9 115 else lt9) = (va_up lt9 mn9 115) from if_pos (of_decide_eq_true c15)] at hP hD
      refine lv_aload_n hx hb dX4_order_18 rfl (lv_at hl 0 rfl) ?_
      refine lv_iconst (v := nI 0) hx hb dX4_order_19 (by decide) ?_
      refine lv_iconst (v := nI 1) hx hb dX4_order_20 (by decide) ?_
      refine callXVv (As := [.int (nI 0), .int (nI 1)]) (rest := []) (wc := (RDW G rh rd sh (at9 + 1) mn9 (va_up lt9 mn9 115) nu9 sg9 ++ SBB G sh sz)) (wr := ([] : va_W)) ⟨hx, hb, hml, hown, hts⟩ (m_X4_number l G rh rd sh (at9 + 1) mn9 (va_up lt9 mn9 115) nu9 sg9 sz xs 0 1 (by first | assumption | omega) (by first | assumption | omega) (by first | assumption | omega) (by first | assumption | omega) (by first | assumption | omega) (by first | assumption | omega)) (cwV 2 hts (lw_V q1572 q1574 qs29 q97 q1575) rfl rfl rfl (by decide +kernel) ⟨Nat.le_of_ble_eq_true rfl, Nat.le_of_ble_eq_true rfl⟩) hK hZ hA hP hD hS [0, 1, 2, 3, 4, 5] [] rfl rfl (by decide) (by decide) (by decide) 0 3 rfl rfl rfl hl.1 (Nat.le_of_ble_eq_true rfl) ⟨Nat.le_of_ble_eq_true rfl, Nat.le_of_ble_eq_true rfl⟩ rfl dX4_order_21 (fun ce9 q9 u9 H locs hw9 hP hD hS hce hcv hcl => ?_) (fun u9 H locs hw9 hP hD hS => ?_)
      · skip
        have hx21 : (fgS (xt xs) xs.length 1 false (at9 + 1)).2.1 = true := hw9
        have hP : va_P G.1 CL (RDW G rh rd sh (at9 + 1) mn9 (va_up lt9 mn9 115) nu9 sg9 ++ SBB G sh sz ++ FTW G q9 (nI (at9 + 1))) _ := hP
        have hD : va_D A (RDW G rh rd sh (at9 + 1) mn9 (va_up lt9 mn9 115) nu9 sg9 ++ SBB G sh sz ++ FTW G q9 (nI (at9 + 1))) := hD
        have hcl : s.vm.findClass RX8 = some ce9.cls := hcl
        have e_r : (nI (at9 + 1)) = (nI (ordP (xt xs) xs.length at9).2.1) := (congrArg nI (or_bs1 hbs hx21).2.symm)
        try rw [e_r] at hP hD
        subst hQ
        refine vx_widen (k := 4) (n := 28) (Nat.le_of_ble_eq_true rfl) (Nat.le_of_ble_eq_true rfl) ?_
        exact out_x (by rw [hnt]; exact fun x9 hx9 => nomatch hx9) hlk ⟨(at9 + 1), (va_up lt9 mn9 115), nu9, sg9⟩ (or_bs1 hbs hx21).1 hP hD hS hce hcv hcl (Nat.le_refl _) (Nat.le_refl _)
      refine W.widen (k := 1) (n := 7) (Nat.le_refl _) (Nat.le_refl _) ?_
      have hw21 : (fgS (xt xs) xs.length 1 false (at9 + 1)).2.1 = false := hw9
      have hP : va_P G.1 CL (RDW G rh rd sh ((fgS (xt xs) xs.length 1 false (at9 + 1)).2.2) mn9 (va_up lt9 mn9 115) (va_up nu9 (2 * mn9 + 0) (fgS (xt xs) xs.length 1 false (at9 + 1)).1) sg9 ++ SBB G sh sz) _ := hP
      have hD : va_D A (RDW G rh rd sh ((fgS (xt xs) xs.length 1 false (at9 + 1)).2.2) mn9 (va_up lt9 mn9 115) (va_up nu9 (2 * mn9 + 0) (fgS (xt xs) xs.length 1 false (at9 + 1)).1) sg9 ++ SBB G sh sz) := hD
      refine lv_aload_n hx hb dX4_order_24 rfl (lv_at hl 0 rfl) ?_
      refine lv_iconst (v := nI 1) hx hb dX4_order_25 (by decide) ?_
      refine lv_iconst (v := nI 1) hx hb dX4_order_26 (by decide) ?_
      refine callXVv (As := [.int (nI 1), .int (nI 1)]) (rest := []) (wc := (RDW G rh rd sh ((fgS (xt xs) xs.length 1 false (at9 + 1)).2.2) mn9 (va_up lt9 mn9 115) (va_up nu9 (2 * mn9 + 0) (fgS (xt xs) xs.length 1 false (at9 + 1)).1) sg9 ++ SBB G sh sz)) (wr := ([] : va_W)) ⟨hx, hb, hml, hown, hts⟩ (m_X4_number l G rh rd sh ((fgS (xt xs) xs.length 1 false (at9 + 1)).2.2) mn9 (va_up lt9 mn9 115) (va_up nu9 (2 * mn9 + 0) (fgS (xt xs) xs.length 1 false (at9 + 1)).1) sg9 sz xs 1 1 (by first | assumption | omega) (fgS_le (m := 1) (show at9 + 1 ≤ xs.length by omega)).2 (by first | assumption | omega) (by first | assumption | omega) (by first | assumption | omega) (by first | assumption | omega)) (cwV 2 hts (lw_V q1572 q1574 qs29 q97 q1575) rfl rfl rfl (by decide +kernel) ⟨Nat.le_of_ble_eq_true rfl, Nat.le_of_ble_eq_true rfl⟩) hK hZ hA hP hD hS [0, 1, 2, 3, 4, 5] [] rfl rfl (by decide) (by decide) (by decide) 0 3 rfl rfl rfl hl.1 (Nat.le_of_ble_eq_true rfl) ⟨Nat.le_of_ble_eq_true rfl, Nat.le_of_ble_eq_true rfl⟩ rfl dX4_order_27 (fun ce9 q9 u9 H locs hw9 hP hD hS hce hcv hcl => ?_) (fun u9 H locs hw9 hP hD hS => ?_)
      · skip
        have hx27 : (fgS (xt xs) xs.length 1 false ((fgS (xt xs) xs.length 1 false (at9 + 1)).2.2)).2.1 = true := hw9
        have hP : va_P G.1 CL (RDW G rh rd sh ((fgS (xt xs) xs.length 1 false (at9 + 1)).2.2) mn9 (va_up lt9 mn9 115) (va_up nu9 (2 * mn9 + 0) (fgS (xt xs) xs.length 1 false (at9 + 1)).1) sg9 ++ SBB G sh sz ++ FTW G q9 (nI ((fgS (xt xs) xs.length 1 false (at9 + 1)).2.2))) _ := hP
        have hD : va_D A (RDW G rh rd sh ((fgS (xt xs) xs.length 1 false (at9 + 1)).2.2) mn9 (va_up lt9 mn9 115) (va_up nu9 (2 * mn9 + 0) (fgS (xt xs) xs.length 1 false (at9 + 1)).1) sg9 ++ SBB G sh sz ++ FTW G q9 (nI ((fgS (xt xs) xs.length 1 false (at9 + 1)).2.2))) := hD
        have hcl : s.vm.findClass RX8 = some ce9.cls := hcl
        have e_r : (nI ((fgS (xt xs) xs.length 1 false (at9 + 1)).2.2)) = (nI (ordP (xt xs) xs.length at9).2.1) := (congrArg nI (or_bs2 hbs hw21 hx27).2.symm)
        try rw [e_r] at hP hD
        subst hQ
        refine vx_widen (k := 4) (n := 28) (Nat.le_of_ble_eq_true rfl) (Nat.le_of_ble_eq_true rfl) ?_
        exact out_x (by rw [hnt]; exact fun x9 hx9 => nomatch hx9) hlk ⟨(fgS (xt xs) xs.length 1 false (at9 + 1)).2.2, (va_up lt9 mn9 115), (va_up nu9 (2 * mn9 + 0) (fgS (xt xs) xs.length 1 false (at9 + 1)).1), sg9⟩ (or_bs2 hbs hw21 hx27).1 hP hD hS hce hcv hcl (Nat.le_refl _) (Nat.le_refl _)
      refine W.widen (k := 2) (n := 14) (Nat.le_refl _) (Nat.le_refl _) ?_
      have hw27 : (fgS (xt xs) xs.length 1 false ((fgS (xt xs) xs.length 1 false (at9 + 1)).2.2)).2.1 = false := hw9
      have hP : va_P G.1 CL (RDW G rh rd sh ((fgS (xt xs) xs.length 1 false ((fgS (xt xs) xs.length 1 false (at9 + 1)).2.2)).2.2) mn9 (va_up lt9 mn9 115) (va_up (va_up nu9 (2 * mn9 + 0) (fgS (xt xs) xs.length 1 false (at9 + 1)).1) (2 * mn9 + 1) (fgS (xt xs) xs.length 1 false ((fgS (xt xs) xs.length 1 false (at9 + 1)).2.2)).1) sg9 ++ SBB G sh sz) _ := hP
      have hD : va_D A (RDW G rh rd sh ((fgS (xt xs) xs.length 1 false ((fgS (xt xs) xs.length 1 false (at9 + 1)).2.2)).2.2) mn9 (va_up lt9 mn9 115) (va_up (va_up nu9 (2 * mn9 + 0) (fgS (xt xs) xs.length 1 false (at9 + 1)).1) (2 * mn9 + 1) (fgS (xt xs) xs.length 1 false ((fgS (xt xs) xs.length 1 false (at9 + 1)).2.2)).1) sg9 ++ SBB G sh sz) := hD
      refine lv_goto (tgt := 147) hx hb dX4_order_30 (by decide) ?_
      refine lv_aload_n hx hb dX4_order_147 rfl (lv_at hl 0 rfl) ?_
      refine lv_dup hx hb dX4_order_148 rfl ?_
      refine va_get (D := G.1) (ci := 3) (v := .int (nI mn9)) (C := RX4) (T := TX4) (N := 6) hx hb hts in_X4 hown hK hP 0 rfl rfl 2 (by decide) (hts _ q275) (fun _ h9 => h9) rfl dX4_order_149 ?_
      refine lv_iconst (v := nI 1) hx hb dX4_order_152 (by decide) ?_
      refine n_iadd hx hb dX4_order_153 ?_
      refine va_put (D := G.1) (ci := 3) (v := .int (nI (mn9 + 1))) (ty := .int) (C := RX4) (T := TX4) (N := 6) hx hb hts in_X4 tyX4 tyX4_ok nmX4 hown hK hP hD hS 0 rfl rfl 2 (by decide) (hts _ q275) (fun _ h9 => h9) rfl (by decide +kernel) rfl rfl (Nat.le_of_ble_eq_true rfl) dX4_order_154 (fun H locs hP hD hS => ?_)
      have hP : va_P G.1 CL (RDW G rh rd sh ((fgS (xt xs) xs.length 1 false ((fgS (xt xs) xs.length 1 false (at9 + 1)).2.2)).2.2) (mn9 + 1) (va_up lt9 mn9 115) (va_up (va_up nu9 (2 * mn9 + 0) (fgS (xt xs) xs.length 1 false (at9 + 1)).1) (2 * mn9 + 1) (fgS (xt xs) xs.length 1 false ((fgS (xt xs) xs.length 1 false (at9 + 1)).2.2)).1) sg9 ++ SBB G sh sz) _ := hP
      have hD : va_D A (RDW G rh rd sh ((fgS (xt xs) xs.length 1 false ((fgS (xt xs) xs.length 1 false (at9 + 1)).2.2)).2.2) (mn9 + 1) (va_up lt9 mn9 115) (va_up (va_up nu9 (2 * mn9 + 0) (fgS (xt xs) xs.length 1 false (at9 + 1)).1) (2 * mn9 + 1) (fgS (xt xs) xs.length 1 false ((fgS (xt xs) xs.length 1 false (at9 + 1)).2.2)).1) sg9 ++ SBB G sh sz) := hD
      have e_at_ : (fgS (xt xs) xs.length 1 false ((fgS (xt xs) xs.length 1 false (at9 + 1)).2.2)).2.2 = (ordP (xt xs) xs.length at9).2.1 := (by rw [or_bs3 hbs hw21 hw27])
      rw [e_at_] at hP hD
      subst hQ
      refine W.widen (k := 4) (n := 28) (Nat.le_of_ble_eq_true rfl) (Nat.le_of_ble_eq_true rfl) ?_
      refine vx_ret ?_
      exact ret_v hx hb hr hlk (⟨(va_up lt9 mn9 115), (va_up (va_up nu9 (2 * mn9 + 0) (fgS (xt xs) xs.length 1 false (at9 + 1)).1) (2 * mn9 + 1) (fgS (xt xs) xs.length 1 false ((fgS (xt xs) xs.length 1 false (at9 + 1)).2.2)).1), sg9⟩) (by rw [or_bs3 hbs hw21 hw27]; exact ⟨rfl, hold_2 hc (by decide) (by decide) (by decide) (Nat.lt_trans fgS_v (by decide)) (Nat.lt_trans fgS_v (by decide)), same_2⟩) hP hD hS dX4_order_157
