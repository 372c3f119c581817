/-! ===== the reader ===== -/
abbrev xt (xs : List Nat) : Nat → Nat := fun j => xs.getD j 0
theorem xt_lt {z : SBZ} {xs : List Nat} (h : SBh z xs) : ∀ j, j < xs.length → xt xs j < 65536 := fun j _ => h.2.2 j
theorem dgs_0 {t : Nat → Nat} {n m i v : Nat} (h : isDg t n i = false) : dgs t n m i v = (v, i) := by
  cases m with
  | zero => rfl
  | succ m => rw [dgs, if_neg (by rw [h]; decide)]
set_option maxHeartbeats 4000000 in
set_option maxRecDepth 100000 in
theorem m_X4_here (l : Launch) (G : GG) (rh : Nat) (rd : Nat → Nat) (sh : Nat) (at9 : Nat) (mn9 : Nat) (lt9 : Nat → Nat) (nu9 : Nat → Nat) (sg9 : Nat → Nat) (sz : SBZ) (xs : List Nat) (hz : SBh sz xs) (hat : at9 ≤ xs.length) : MM l G yX4_here cX4_here 1 (some .int) ⟨4, 0, 0, 88⟩ [.ref rh] (RDW G rh rd sh at9 mn9 lt9 nu9 sg9 ++ SBB G sh sz) (Qi_ G (fun (r : Int32) (_ : Unit) => r = (hrI (xt xs) xs.length at9)) (fun (_ : Unit) => (RDW G rh rd sh at9 mn9 lt9 nu9 sg9 ++ SBB G sh sz))) := by
  refine MM.of (by decide) (Nat.le_of_ble_eq_true rfl) ?_
  intro p e s m args below meth cd A C hini hA hK hZ hP hD ls hl
  generalize hQ : MQ below ((Qi_ G (fun (r : Int32) (_ : Unit) => r = (hrI (xt xs) xs.length at9)) (fun (_ : Unit) => (RDW G rh rd sh at9 mn9 lt9 nu9 sg9 ++ SBB G sh sz))) A) args s (⟨4, 0, 0, 88⟩ : Room).cells (⟨4, 0, 0, 88⟩ : Room).slots A = Q
  obtain ⟨hx, hb, hr, hts, hown, hlk, hml⟩ := C
  have hown : s.vm.findClass RX4 = some m.cls := hown
  have hS : va_S A s.heap s.heap [] := va_S.rf
  have hl : lv_has ls 1 [(0, .ref rh)] := hl
  have hl6 := hz.len
  refine lv_aload_n hx hb dX4_here_0 rfl (lv_at hl 0 rfl) ?_
  refine va_get (D := G.1) (ci := 3) (v := .int (nI at9)) (C := RX4) (T := TX4) (N := 6) hx hb hts in_X4 hown hK hP 0 rfl rfl 1 (by decide) (hts _ q274) (fun _ h9 => h9) rfl dX4_here_1 ?_
  refine lv_aload_n hx hb dX4_here_4 rfl (lv_at hl 0 rfl) ?_
  refine va_get (D := G.1) (ci := 3) (v := .ref sh) (C := RX4) (T := TX4) (N := 6) hx hb hts in_X4 hown hK hP 0 rfl rfl 0 (by decide) (hts _ q273) (fun _ h9 => h9) rfl dX4_here_5 ?_
  refine callVi (As := []) (rest := [.int (nI at9)]) (wc := (SBB G sh sz)) (wr := (RDW G rh rd sh at9 mn9 lt9 nu9 sg9)) ⟨hx, hb, hml, hown, hts⟩ (m_J3_length l G sh sz xs (by first | assumption | omega)) (cwV 0 hts (lw_V q1570 q857 q2190 q94 q858) rfl rfl rfl (by decide +kernel) ⟨Nat.le_of_ble_eq_true rfl, Nat.le_of_ble_eq_true rfl⟩) hK hZ hA hP hD hS [4, 5] [0, 1, 2, 3] rfl rfl (by decide) (by decide) (by decide) 0 9 rfl rfl rfl hl.1 (Nat.le_of_ble_eq_true rfl) ⟨Nat.le_of_ble_eq_true rfl, Nat.le_of_ble_eq_true rfl⟩ rfl dX4_here_8 (fun r9 u9 H locs hw9 hP hD hS => ?_)
  subst hw9
  have hP : va_P G.1 CL (RDW G rh rd sh at9 mn9 lt9 nu9 sg9 ++ SBB G sh sz) _ := hP
  have hD : va_D A (RDW G rh rd sh at9 mn9 lt9 nu9 sg9 ++ SBB G sh sz) := hD
  refine n_cmp_ge (tgt := 28) hx hb dX4_here_11 (by decide) (by omega) (by omega) (fun c11 => ?_) (fun c11 => ?_)
  · skip
    refine lv_iconst (v := (-1)) hx hb dX4_here_28 (by decide) ?_
    subst hQ
    exact ret_i hx hb hr hlk () (by unfold hrI; rw [if_neg (by omega)]) hP hD hS rfl dX4_here_29
  · skip
    refine lv_aload_n hx hb dX4_here_14 rfl (lv_at hl 0 rfl) ?_
    refine va_get (D := G.1) (ci := 3) (v := .ref sh) (C := RX4) (T := TX4) (N := 6) hx hb hts in_X4 hown hK hP 0 rfl rfl 0 (by decide) (hts _ q273) (fun _ h9 => h9) rfl dX4_here_15 ?_
    refine lv_aload_n hx hb dX4_here_18 rfl (lv_at hl 0 rfl) ?_
    refine va_get (D := G.1) (ci := 3) (v := .int (nI at9)) (C := RX4) (T := TX4) (N := 6) hx hb hts in_X4 hown hK hP 0 rfl rfl 1 (by decide) (hts _ q274) (fun _ h9 => h9) rfl dX4_here_19 ?_
    refine callVi (As := [.int (nI at9)]) (rest := []) (wc := (SBB G sh sz)) (wr := (RDW G rh rd sh at9 mn9 lt9 nu9 sg9)) ⟨hx, hb, hml, hown, hts⟩ (m_J3_charAt l G sh sz xs at9 (by first | assumption | omega) (by first | assumption | omega)) (cwV 1 hts (lw_V q1571 q1516 q1517 q94 q1518) rfl rfl rfl (by decide +kernel) ⟨Nat.le_of_ble_eq_true rfl, Nat.le_of_ble_eq_true rfl⟩) hK hZ hA hP hD hS [4, 5] [0, 1, 2, 3] rfl rfl (by decide) (by decide) (by decide) 0 9 rfl rfl rfl hl.1 (Nat.le_of_ble_eq_true rfl) ⟨Nat.le_of_ble_eq_true rfl, Nat.le_of_ble_eq_true rfl⟩ rfl dX4_here_22 (fun r9 u9 H locs hw9 hP hD hS => ?_)
    subst hw9
    have hP : va_P G.1 CL (RDW G rh rd sh at9 mn9 lt9 nu9 sg9 ++ SBB G sh sz) _ := hP
    have hD : va_D A (RDW G rh rd sh at9 mn9 lt9 nu9 sg9 ++ SBB G sh sz) := hD
    refine lv_goto (tgt := 29) hx hb dX4_here_25 (by decide) ?_
    subst hQ
    exact ret_i hx hb hr hlk () (by unfold hrI; rw [if_pos (by omega)]) hP hD hS rfl dX4_here_29
set_option maxHeartbeats 4000000 in
set_option maxRecDepth 100000 in
theorem m_X4_skip (l : Launch) (G : GG) (rh : Nat) (rd : Nat → Nat) (sh : Nat) (at9 : Nat) (mn9 : Nat) (lt9 : Nat → Nat) (nu9 : Nat → Nat) (sg9 : Nat → Nat) (sz : SBZ) (xs : List Nat) (cv : Nat) (hz : SBh sz xs) (hat : at9 ≤ xs.length) (hcv : cv < 65536) : MM l G yX4_skip cX4_skip 2 (some .boolean) ⟨5, 0, 0, 108⟩ [.ref rh, .int (nI cv)] (RDW G rh rd sh at9 mn9 lt9 nu9 sg9 ++ SBB G sh sz) (Qi_ G (fun (r : Int32) (_ : Unit) => r = bI (decide ((hrI (xt xs) xs.length at9) = nI cv))) (fun (_ : Unit) => (RDW G rh rd sh (if (hrI (xt xs) xs.length at9) = nI cv then at9 + 1 else at9) mn9 lt9 nu9 sg9 ++ SBB G sh sz))) := by
  refine MM.of (by decide) (Nat.le_of_ble_eq_true rfl) ?_
  intro p e s m args below meth cd A C hini hA hK hZ hP hD ls hl
  generalize hQ : MQ below ((Qi_ G (fun (r : Int32) (_ : Unit) => r = bI (decide ((hrI (xt xs) xs.length at9) = nI cv))) (fun (_ : Unit) => (RDW G rh rd sh (if (hrI (xt xs) xs.length at9) = nI cv then at9 + 1 else at9) mn9 lt9 nu9 sg9 ++ SBB G sh sz))) A) args s (⟨5, 0, 0, 108⟩ : Room).cells (⟨5, 0, 0, 108⟩ : Room).slots A = Q
  obtain ⟨hx, hb, hr, hts, hown, hlk, hml⟩ := C
  have hown : s.vm.findClass RX4 = some m.cls := hown
  have hS : va_S A s.heap s.heap [] := va_S.rf
  have hl : lv_has ls 2 [(0, .ref rh), (1, .int (nI cv))] := hl
  refine lv_aload_n hx hb dX4_skip_0 rfl (lv_at hl 0 rfl) ?_
  refine callVi (As := []) (rest := []) (wc := (RDW G rh rd sh at9 mn9 lt9 nu9 sg9 ++ SBB G sh sz)) (wr := ([] : va_W)) ⟨hx, hb, hml, hown, hts⟩ (m_X4_here l G rh rd sh at9 mn9 lt9 nu9 sg9 sz xs (by first | assumption | omega) (by first | assumption | omega)) (cwV 0 hts (lw_V q1566 q1568 qs28 q97 q1569) rfl rfl rfl (by decide +kernel) ⟨Nat.le_of_ble_eq_true rfl, Nat.le_of_ble_eq_true rfl⟩) hK hZ hA hP hD hS [0, 1, 2, 3, 4, 5] [] rfl rfl (by decide) (by decide) (by decide) 0 3 rfl rfl rfl hl.1 (Nat.le_of_ble_eq_true rfl) ⟨Nat.le_of_ble_eq_true rfl, Nat.le_of_ble_eq_true rfl⟩ rfl dX4_skip_1 (fun r9 u9 H locs hw9 hP hD hS => ?_)
  subst hw9
  have hP : va_P G.1 CL (RDW G rh rd sh at9 mn9 lt9 nu9 sg9 ++ SBB G sh sz) _ := hP
  have hD : va_D A (RDW G rh rd sh at9 mn9 lt9 nu9 sg9 ++ SBB G sh sz) := hD
  refine lv_iload_n hx hb dX4_skip_4 rfl (lv_at hl 1 rfl) ?_
  refine lv_icmp_eq (tgt := 10) hx hb dX4_skip_5 (by decide) (fun c5 => ?_) (fun c5 => ?_)
  · skip
    refine lv_aload_n hx hb dX4_skip_10 rfl (lv_at hl 0 rfl) ?_
    refine lv_dup hx hb dX4_skip_11 rfl ?_
    refine va_get (D := G.1) (ci := 3) (v := .int (nI at9)) (C := RX4) (T := TX4) (N := 6) hx hb hts in_X4 hown hK hP 0 rfl rfl 1 (by decide) (hts _ q274) (fun _ h9 => h9) rfl dX4_skip_12 ?_
    refine lv_iconst (v := nI 1) hx hb dX4_skip_15 (by decide) ?_
    refine n_iadd hx hb dX4_skip_16 ?_
    refine va_put (D := G.1) (ci := 3) (v := .int (nI (at9 + 1))) (ty := .int) (C := RX4) (T := TX4) (N := 6) hx hb hts in_X4 tyX4 tyX4_ok nmX4 hown hK hP hD hS 0 rfl rfl 1 (by decide) (hts _ q274) (fun _ h9 => h9) rfl (by decide +kernel) rfl rfl (Nat.le_of_ble_eq_true rfl) dX4_skip_17 (fun H locs hP hD hS => ?_)
    have hP : va_P G.1 CL (RDW G rh rd sh (at9 + 1) mn9 lt9 nu9 sg9 ++ SBB G sh sz) _ := hP
    have hD : va_D A (RDW G rh rd sh (at9 + 1) mn9 lt9 nu9 sg9 ++ SBB G sh sz) := hD
    refine lv_iconst (v := nI 1) hx hb dX4_skip_20 (by decide) ?_
    have e_at_ : (at9 + 1) = (if (hrI (xt xs) xs.length at9) = nI cv then at9 + 1 else at9) := (if_pos (by assumption)).symm
    rw [e_at_] at hP hD
    subst hQ
    exact ret_i hx hb hr hlk () (bI_d1 (by assumption)) hP hD hS rfl dX4_skip_21
  · skip
    refine lv_iconst (v := nI 0) hx hb dX4_skip_8 (by decide) ?_
    have e_at_ : at9 = (if (hrI (xt xs) xs.length at9) = nI cv then at9 + 1 else at9) := (if_neg (by assumption)).symm
    rw [e_at_] at hP hD
    subst hQ
    exact ret_i hx hb hr hlk () (bI_d0 (by assumption)) hP hD hS rfl dX4_skip_9
set_option maxHeartbeats 4000000 in
set_option maxRecDepth 100000 in
theorem m_X4_isOrder (l : Launch) (G : GG) (rh : Nat) (rd : Nat → Nat) (sh : Nat) (at9 : Nat) (mn9 : Nat) (lt9 : Nat → Nat) (nu9 : Nat → Nat) (sg9 : Nat → Nat) (sz : SBZ) (xs : List Nat) (cv : Nat) (hz : SBh sz xs) (hat : at9 ≤ xs.length) (hcv : cv < 65536) (hmn : mn9 < 60) : MM l G yX4_isOrder cX4_isOrder 2 (some .boolean) ⟨6, 0, 0, 129⟩ [.ref rh, .int (nI cv)] (RDW G rh rd sh at9 mn9 lt9 nu9 sg9 ++ SBB G sh sz) (Qi_ G (fun (r : Int32) (_ : Unit) => r = bI (decide ((hrI (xt xs) xs.length at9) = nI cv))) (fun (_ : Unit) => (RDW G rh rd sh (if (hrI (xt xs) xs.length at9) = nI cv then at9 + 1 else at9) mn9 (if (hrI (xt xs) xs.length at9) = nI cv then va_up lt9 mn9 cv else lt9) nu9 sg9 ++ SBB G sh sz))) := by
  refine MM.of (by decide) (Nat.le_of_ble_eq_true rfl) ?_
  intro p e s m args below meth cd A C hini hA hK hZ hP hD ls hl
  generalize hQ : MQ below ((Qi_ G (fun (r : Int32) (_ : Unit) => r = bI (decide ((hrI (xt xs) xs.length at9) = nI cv))) (fun (_ : Unit) => (RDW G rh rd sh (if (hrI (xt xs) xs.length at9) = nI cv then at9 + 1 else at9) mn9 (if (hrI (xt xs) xs.length at9) = nI cv then va_up lt9 mn9 cv else lt9) nu9 sg9 ++ SBB G sh sz))) A) args s (⟨6, 0, 0, 129⟩ : Room).cells (⟨6, 0, 0, 129⟩ : Room).slots A = Q
  obtain ⟨hx, hb, hr, hts, hown, hlk, hml⟩ := C
  have hown : s.vm.findClass RX4 = some m.cls := hown
  have hS : va_S A s.heap s.heap [] := va_S.rf
  have hl : lv_has ls 2 [(0, .ref rh), (1, .int (nI cv))] := hl
  refine lv_aload_n hx hb dX4_isOrder_0 rfl (lv_at hl 0 rfl) ?_
  refine lv_iload_n hx hb dX4_isOrder_1 rfl (lv_at hl 1 rfl) ?_
  refine callVi (As := [.int (nI cv)]) (rest := []) (wc := (RDW G rh rd sh at9 mn9 lt9 nu9 sg9 ++ SBB G sh sz)) (wr := ([] : va_W)) ⟨hx, hb, hml, hown, hts⟩ (m_X4_skip l G rh rd sh at9 mn9 lt9 nu9 sg9 sz xs cv (by first | assumption | omega) (by first | assumption | omega) (by first | assumption | omega)) (cwV 1 hts (lw_V q1562 q1564 qs27 q97 q1565) rfl rfl rfl (by decide +kernel) ⟨Nat.le_of_ble_eq_true rfl, Nat.le_of_ble_eq_true rfl⟩) hK hZ hA hP hD hS [0, 1, 2, 3, 4, 5] [] rfl rfl (by decide) (by decide) (by decide) 0 3 rfl rfl rfl hl.1 (Nat.le_of_ble_eq_true rfl) ⟨Nat.le_of_ble_eq_true rfl, Nat.le_of_ble_eq_true rfl⟩ rfl dX4_isOrder_2 (fun r9 u9 H locs hw9 hP hD hS => ?_)
  subst hw9
  have hP : va_P G.1 CL (RDW G rh rd sh (if (hrI (xt xs) xs.length at9) = nI cv then at9 + 1 else at9) mn9 lt9 nu9 sg9 ++ SBB G sh sz) _ := hP
  have hD : va_D A (RDW G rh rd sh (if (hrI (xt xs) xs.length at9) = nI cv then at9 + 1 else at9) mn9 lt9 nu9 sg9 ++ SBB G sh sz) := hD
  refine b_if_ne (tgt := 10) hx hb dX4_isOrder_5 (by decide) (fun c5 => ?_) (fun c5 => ?_)
  · skip
    refine lv_aload_n hx hb dX4_isOrder_10 rfl (lv_at hl 0 rfl) ?_
    refine va_get (D := G.1) (ci := 3) (v := .ref (rd 0)) (C := RX4) (T := TX4) (N := 6) hx hb hts in_X4 hown hK hP 0 rfl rfl 3 (by decide) (hts _ q277) (fun _ h9 => h9) rfl dX4_isOrder_11 ?_
    refine lv_aload_n hx hb dX4_isOrder_14 rfl (lv_at hl 0 rfl) ?_
    refine va_get (D := G.1) (ci := 3) (v := .int (nI mn9)) (C := RX4) (T := TX4) (N := 6) hx hb hts in_X4 hown hK hP 0 rfl rfl 2 (by decide) (hts _ q275) (fun _ h9 => h9) rfl dX4_isOrder_15 ?_
    refine lv_iload_n hx hb dX4_isOrder_18 rfl (lv_at hl 1 rfl) ?_
    refine n_cast hx hb hK hP hD hS 1 2 rfl rfl (by omega) (by decide) (by omega) dX4_isOrder_19 (fun H locs hP hD hS => ?_)
    have hP : va_P G.1 CL (RDW G rh rd sh (if (hrI (xt xs) xs.length at9) = nI cv then at9 + 1 else at9) mn9 (va_up lt9 mn9 cv) nu9 sg9 ++ SBB G sh sz) _ := hP
    have hD : va_D A (RDW G rh rd sh (if (hrI (xt xs) xs.length at9) = nI cv then at9 + 1 else at9) mn9 (va_up lt9 mn9 cv) nu9 sg9 ++ SBB G sh sz) := hD
    refine lv_iconst (v := nI 1) hx hb dX4_isOrder_20 (by decide) ?_
    have e_lt : (va_up lt9 mn9 cv) = (if (hrI (xt xs) xs.length at9) = nI cv then va_up lt9 mn9 cv else lt9) := (if_pos (of_decide_eq_true c5)).symm
    rw [e_lt] at hP hD
    subst hQ
    exact ret_i hx hb hr hlk () (bI_1 c5) hP hD hS rfl dX4_isOrder_21
  · skip
    refine lv_iconst (v := nI 0) hx hb dX4_isOrder_8 (by decide) ?_
    have e_lt : lt9 = (if (hrI (xt xs) xs.length at9) = nI cv then va_up lt9 mn9 cv else lt9) := (if_neg (of_decide_eq_false c5)).symm
    rw [e_lt] at hP hD
    subst hQ
    exact ret_i hx hb hr hlk () (bI_0 c5) hP hD hS rfl dX4_isOrder_9
