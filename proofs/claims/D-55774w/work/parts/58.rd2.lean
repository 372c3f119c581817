theorem hr_lt {t : Nat → Nat} {n i : Nat} {c : Nat} (hc : c < 2147483648) (h : nI c ≤ hrI t n i) : i < n := by
  unfold hrI at h
  by_cases g : i < n
  · exact g
  · rw [if_neg g] at h
    exfalso
    rw [Int32.le_iff_toInt_le, nI_toInt hc, show (-1 : Int32).toInt = -1 from by decide] at h
    omega
theorem isDg_lt {t : Nat → Nat} {n i : Nat} (h : isDg t n i = true) : i < n ∧ 48 ≤ t i ∧ t i ≤ 57 := by unfold isDg at h; exact of_decide_eq_true h
theorem dgs_s {t : Nat → Nat} {n m i v : Nat} (h : isDg t n i = true) (hm : 0 < m) : dgs t n (m - 1) (i + 1) (10 * v + t i - 48) = dgs t n m i v := by
  cases m with
  | zero => exact absurd hm (by decide)
  | succ m => rw [show dgs t n (m + 1) i v = _ from rfl, dgs, if_pos h]; rfl
set_option maxHeartbeats 4000000 in
set_option maxRecDepth 100000 in
theorem m_X4_must (l : Launch) (G : GG) (rh : Nat) (rd : Nat → Nat) (sh : Nat) (at9 : Nat) (mn9 : Nat) (lt9 : Nat → Nat) (nu9 : Nat → Nat) (sg9 : Nat → Nat) (bv : Bool) (hst : l.stackTraces = false) : MX l G yX4_must cX4_must 2 none ⟨6, 1, 7, 92⟩ [.ref rh, .int (bI bv)] (RDW G rh rd sh at9 mn9 lt9 nu9 sg9) (Qv_ G (fun (_ : Unit) => bv = true) (fun (_ : Unit) => (RDW G rh rd sh at9 mn9 lt9 nu9 sg9))) (XQ G (fun (_ : Unit) => RX8) (fun (_ : Unit) => bv = false) (fun (q9 : Nat) (_ : Unit) => (RDW G rh rd sh at9 mn9 lt9 nu9 sg9 ++ FTW G q9 (nI at9)))) := by
  refine MX.of (by decide) (Nat.le_of_ble_eq_true rfl) ?_
  intro p e s m args below meth cd A C hini hA hK hZ hP hD hnt ls hl
  generalize hQ : vx_MQ below ((Qv_ G (fun (_ : Unit) => bv = true) (fun (_ : Unit) => (RDW G rh rd sh at9 mn9 lt9 nu9 sg9))) A) ((XQ G (fun (_ : Unit) => RX8) (fun (_ : Unit) => bv = false) (fun (q9 : Nat) (_ : Unit) => (RDW G rh rd sh at9 mn9 lt9 nu9 sg9 ++ FTW G q9 (nI at9)))) A) args s (⟨6, 1, 7, 92⟩ : Room).cells (⟨6, 1, 7, 92⟩ : Room).slots A = Q
  obtain ⟨hx, hb, hr, hts, hown, hlk, hml⟩ := C
  have hown : s.vm.findClass RX4 = some m.cls := hown
  have hS : va_S A s.heap s.heap [] := va_S.rf
  have hl : lv_has ls 2 [(0, .ref rh), (1, .int (bI bv))] := hl
  refine lv_iload_n hx hb dX4_must_0 rfl (lv_at hl 1 rfl) ?_
  refine b_if_ne (tgt := 16) hx hb dX4_must_1 (by decide) (fun c1 => ?_) (fun c1 => ?_)
  · skip
    subst hQ
    refine W.widen (k := 1) (n := 7) (Nat.le_of_ble_eq_true rfl) (Nat.le_of_ble_eq_true rfl) ?_
    refine vx_ret ?_
    exact ret_v hx hb hr hlk () c1 hP hD hS dX4_must_16
  · skip
    refine new9 (own := RX4) (C := RY8) (T := TY8) (N := 1) (n9 := 7) (ci := 7) (index := 43) hx hb hts in_Y8 tyY8 tyY8_ok hown q1581 q1582 q121 hK hP hD hS hA rfl (fs := [.int (nI 0)]) (fun j hj => by rw [show j = 0 by omega]; rfl) (Nat.le_of_ble_eq_true rfl) (Nat.le_of_ble_eq_true rfl) dX4_must_4 (fun q1 H kC9 hP hD hS hkC9 hbl9 => ?_)
    refine W.widen (k := 1) (n := 7) (Nat.le_refl _) (Nat.le_refl _) ?_
    have hP : va_P G.1 CL (RDW G rh rd sh at9 mn9 lt9 nu9 sg9 ++ FTW G q1 (nI 0)) _ := hP
    have hD : va_D A (RDW G rh rd sh at9 mn9 lt9 nu9 sg9 ++ FTW G q1 (nI 0)) := hD
    refine lv_dup hx hb dX4_must_7 rfl ?_
    refine lv_aload_n hx hb dX4_must_8 rfl (lv_at hl 0 rfl) ?_
    refine va_get (D := G.1) (ci := 3) (v := .int (nI at9)) (C := RX4) (T := TX4) (N := 6) hx hb hts in_X4 hown hK hP 0 rfl rfl 1 (by decide) (hts _ q274) (fun _ h9 => h9) rfl dX4_must_9 ?_
    refine callF (As := [.int (nI at9)]) (rest := [.ref q1]) (wc := (FTW G q1 (nI 0))) (wr := (RDW G rh rd sh at9 mn9 lt9 nu9 sg9)) (ci := 7) ⟨hx, hb, hml, hown, hts⟩ (f_X8_init l G hst q1 (nI at9) _ rfl) (cwI 1 hts (lw_meth q1592) rfl rfl rfl (hts _ q121) (hts _ q1590) (hts _ q1591) rfl (by decide +kernel) ⟨Nat.le_of_ble_eq_true rfl, Nat.le_of_ble_eq_true rfl⟩) hK hZ hA hP hD hS [4] [0, 1, 2, 3] rfl rfl (by decide) (by decide) (by decide) hkC9 hbl9 rfl hl.1 (Nat.le_of_ble_eq_true rfl) ⟨Nat.le_of_ble_eq_true rfl, Nat.le_of_ble_eq_true rfl⟩ rfl dX4_must_12 (fun u9 H locs hw9 hP hD hS => ?_)
    have hP : va_P G.1 CL (RDW G rh rd sh at9 mn9 lt9 nu9 sg9 ++ FTW G q1 (nI at9)) _ := hP
    have hD : va_D A (RDW G rh rd sh at9 mn9 lt9 nu9 sg9 ++ FTW G q1 (nI at9)) := hD
    refine vx_athrow hx hb dX4_must_15 ?_
    obtain ⟨ce9, hce, hcv, hcl⟩ := cell_of hK hP (ci := 7) (q0 := 4) rfl rfl
    have hcl : s.vm.findClass RY8 = some ce9.cls := hcl
    obtain ⟨q9, eq9⟩ : ∃ z, z = q1 := ⟨_, rfl⟩
    rw [← eq9] at hP hD hce ⊢
    have hP : va_P G.1 CL (RDW G rh rd sh at9 mn9 lt9 nu9 sg9 ++ FTW G q9 (nI at9)) _ := hP
    have hD : va_D A (RDW G rh rd sh at9 mn9 lt9 nu9 sg9 ++ FTW G q9 (nI at9)) := hD
    subst hQ
    refine vx_widen (k := 1) (n := 7) (Nat.le_of_ble_eq_true rfl) (Nat.le_of_ble_eq_true rfl) ?_
    exact out_x (by rw [hnt]; exact fun x9 hx9 => nomatch hx9) hlk () c1 hP hD hS hce hcv hcl (Nat.le_refl _) (Nat.le_refl _)
set_option maxHeartbeats 4000000 in
set_option maxRecDepth 100000 in
theorem m_X4_number (l : Launch) (G : GG) (rh : Nat) (rd : Nat → Nat) (sh : Nat) (at9 : Nat) (mn9 : Nat) (lt9 : Nat → Nat) (nu9 : Nat → Nat) (sg9 : Nat → Nat) (sz : SBZ) (xs : List Nat) (kk : Nat) (mm : Nat) (hz : SBh sz xs) (hat : at9 ≤ xs.length) (hkk : kk ≤ 1) (hmm : 1 ≤ mm ∧ mm ≤ 3) (hmn : mn9 < 60) (hst : l.stackTraces = false) : MX l G yX4_number cX4_number 5 none ⟨7, 1, 7, 113⟩ [.ref rh, .int (nI kk), .int (nI mm)] (RDW G rh rd sh at9 mn9 lt9 nu9 sg9 ++ SBB G sh sz) (Qv_ G (fun (_ : Unit) => (fgS (xt xs) xs.length mm false at9).2.1 = false) (fun (_ : Unit) => (RDW G rh rd sh ((fgS (xt xs) xs.length mm false at9).2.2) mn9 lt9 (va_up nu9 (2 * mn9 + kk) (fgS (xt xs) xs.length mm false at9).1) sg9 ++ SBB G sh sz))) (XQ G (fun (_ : Unit) => RX8) (fun (_ : Unit) => (fgS (xt xs) xs.length mm false at9).2.1 = true) (fun (q9 : Nat) (_ : Unit) => (RDW G rh rd sh at9 mn9 lt9 nu9 sg9 ++ SBB G sh sz ++ FTW G q9 (nI at9)))) := by
  refine MX.of (by decide) (Nat.le_of_ble_eq_true rfl) ?_
  intro p e s m args below meth cd A C hini hA hK hZ hP hD hnt ls hl
  generalize hQ : vx_MQ below ((Qv_ G (fun (_ : Unit) => (fgS (xt xs) xs.length mm false at9).2.1 = false) (fun (_ : Unit) => (RDW G rh rd sh ((fgS (xt xs) xs.length mm false at9).2.2) mn9 lt9 (va_up nu9 (2 * mn9 + kk) (fgS (xt xs) xs.length mm false at9).1) sg9 ++ SBB G sh sz))) A) ((XQ G (fun (_ : Unit) => RX8) (fun (_ : Unit) => (fgS (xt xs) xs.length mm false at9).2.1 = true) (fun (q9 : Nat) (_ : Unit) => (RDW G rh rd sh at9 mn9 lt9 nu9 sg9 ++ SBB G sh sz ++ FTW G q9 (nI at9)))) A) args s (⟨7, 1, 7, 113⟩ : Room).cells (⟨7, 1, 7, 113⟩ : Room).slots A = Q
  obtain ⟨hx, hb, hr, hts, hown, hlk, hml⟩ := C
  have hown : s.vm.findClass RX4 = some m.cls := hown
  have hS : va_S A s.heap s.heap [] := va_S.rf
  have hl : lv_has ls 5 [(0, .ref rh), (1, .int (nI kk)), (2, .int (nI mm))] := hl
  have hl6 := hz.len
  refine lv_iconst (v := nI 0) hx hb dX4_number_0 (by decide) ?_
  refine lv_istore_n (lv' := [(3, .int (nI 0)), (0, .ref rh), (1, .int (nI kk)), (2, .int (nI mm))]) hx hb dX4_number_1 rfl hl (by decide) rfl (fun ls hl => ?_)
  refine lv_iconst (v := nI 0) hx hb dX4_number_2 (by decide) ?_
  refine lv_istore (lv' := [(4, .int (nI 0)), (3, .int (nI 0)), (0, .ref rh), (1, .int (nI kk)), (2, .int (nI mm))]) hx hb dX4_number_3 hl (by decide) rfl (fun ls hl => ?_)
  have lp5 : ∀ (f : Nat) (v : Nat) (i : Nat) (a : Nat), mm - i < f → (i ≤ mm) → (a = at9 + i) → (a ≤ xs.length) → (dgs (xt xs) xs.length (mm - i) a v = dgs (xt xs) xs.length mm at9 0) → (0 < i → isDg (xt xs) xs.length at9 = true) → (v < 10 ^ i) → ∀ (H : Heap) (locs : List Loc) (ls : Array Slot), va_P G.1 CL (RDW G rh rd sh a mn9 lt9 nu9 sg9 ++ SBB G sh sz) H → va_D A (RDW G rh rd sh a mn9 lt9 nu9 sg9 ++ SBB G sh sz) → va_S A s.heap H locs → lv_has ls 5 [(4, .int (nI i)), (3, .int (nI v)), (0, .ref rh), (1, .int (nI kk)), (2, .int (nI mm))] → W p l e (⟨7, 1, 7, 113⟩ : Room) s m args below meth cd H locs 0 0 Q (F0 m 5 ls []) := by
    intro f
    induction f with
    | zero => intro v i a hf; exact absurd hf (Nat.not_lt_zero _)
    | succ f ih5 =>
      intro v i a hf hi ha hal hd9 hp hv H locs ls hP hD hS hl
      refine lv_iload hx hb dX4_number_5 (lv_at hl 0 rfl) ?_
      refine lv_iload_n hx hb dX4_number_7 rfl (lv_at hl 4 rfl) ?_
      refine n_cmp_ge (tgt := 61) hx hb dX4_number_8 (by decide) (by omega) (by omega) (fun c8 => ?_) (fun c8 => ?_)
      · skip
        have hex : dgs (xt xs) xs.length (mm - i) a v = (v, a) := (by rw [show mm - i = 0 by omega]; rfl)
        refine lv_aload_n hx hb dX4_number_61 rfl (lv_at hl 2 rfl) ?_
        refine lv_iload hx hb dX4_number_62 (lv_at hl 0 rfl) ?_
        refine n_if_le (tgt := 71) hx hb dX4_number_64 (by decide) (by omega) (fun c64 => ?_) (fun c64 => ?_)
        · skip
          refine lv_iconst (v := nI 0) hx hb dX4_number_71 (by decide) ?_
          refine callXVv (As := [.int (nI 0)]) (rest := []) (wc := (RDW G rh rd sh a mn9 lt9 nu9 sg9)) (wr := (SBB G sh sz)) ⟨hx, hb, hml, hown, hts⟩ (m_X4_must l G rh rd sh a mn9 lt9 nu9 sg9 false (by first | assumption | omega)) (cwV 1 hts (lw_V q1577 q1579 qs30 q97 q1580) rfl rfl rfl (by decide +kernel) ⟨Nat.le_of_ble_eq_true rfl, Nat.le_of_ble_eq_true rfl⟩) hK hZ hA hP hD hS [0, 1, 2, 3] [4, 5] rfl rfl (by decide) (by decide) (by decide) 0 3 rfl rfl rfl hl.1 (Nat.le_of_ble_eq_true rfl) ⟨Nat.le_of_ble_eq_true rfl, Nat.le_of_ble_eq_true rfl⟩ rfl dX4_number_72 (fun ce9 q9 u9 H locs hw9 hP hD hS hce hcv hcl => ?_) (fun u9 H locs hw9 hP hD hS => ?_)
          · skip
            have hx72 : false = false := hw9
            obtain ⟨hP, hD⟩ := re_PD (w := (RDW G rh rd sh a mn9 lt9 nu9 sg9 ++ SBB G sh sz ++ FTW G q9 (nI a))) hP hD [2, 3, 4, 5, 0, 1, 6] (by decide) rfl
            have hcl : s.vm.findClass RX8 = some ce9.cls := hcl
            have e_at_ : a = at9 := (by omega)
            try rw [e_at_] at hP hD
            have e_r : (nI a) = (nI at9) := (congrArg nI (by omega))
            try rw [e_r] at hP hD
            subst hQ
            refine vx_widen (k := 1) (n := 7) (Nat.le_of_ble_eq_true rfl) (Nat.le_of_ble_eq_true rfl) ?_
            exact out_x (by rw [hnt]; exact fun x9 hx9 => nomatch hx9) hlk () (by dsimp only at *; first | (rw [show i = 0 by omega] at hex hd9; unfold fgS; rw [if_neg (by decide)]; split; exact absurd ‹_› (by first | (rw [show at9 = a by omega]; rw [((isDg_in (xt_lt hz)).symm.trans c22)]; decide) | (exfalso; omega)); rfl) ) hP hD hS hce hcv hcl (Nat.le_refl _) (Nat.le_refl _)
          refine W.widen (k := 1) (n := 7) (Nat.le_refl _) (Nat.le_refl _) ?_
          have hw72 : false = true := hw9
          obtain ⟨hP, hD⟩ := re_PD (w := (RDW G rh rd sh a mn9 lt9 nu9 sg9 ++ SBB G sh sz)) hP hD [2, 3, 4, 5, 0, 1] (by decide) rfl
          exact absurd hw72 (by decide)
        · skip
          refine lv_iconst (v := nI 1) hx hb dX4_number_67 (by decide) ?_
          refine lv_goto (tgt := 72) hx hb dX4_number_68 (by decide) ?_
          refine callXVv (As := [.int (nI 1)]) (rest := []) (wc := (RDW G rh rd sh a mn9 lt9 nu9 sg9)) (wr := (SBB G sh sz)) ⟨hx, hb, hml, hown, hts⟩ (m_X4_must l G rh rd sh a mn9 lt9 nu9 sg9 true (by first | assumption | omega)) (cwV 1 hts (lw_V q1577 q1579 qs30 q97 q1580) rfl rfl rfl (by decide +kernel) ⟨Nat.le_of_ble_eq_true rfl, Nat.le_of_ble_eq_true rfl⟩) hK hZ hA hP hD hS [0, 1, 2, 3] [4, 5] rfl rfl (by decide) (by decide) (by decide) 0 3 rfl rfl rfl hl.1 (Nat.le_of_ble_eq_true rfl) ⟨Nat.le_of_ble_eq_true rfl, Nat.le_of_ble_eq_true rfl⟩ rfl dX4_number_72 (fun ce9 q9 u9 H locs hw9 hP hD hS hce hcv hcl => ?_) (fun u9 H locs hw9 hP hD hS => ?_)
          · skip
            have hx72 : true = false := hw9
            obtain ⟨hP, hD⟩ := re_PD (w := (RDW G rh rd sh a mn9 lt9 nu9 sg9 ++ SBB G sh sz ++ FTW G q9 (nI a))) hP hD [2, 3, 4, 5, 0, 1, 6] (by decide) rfl
            exact absurd hx72 (by decide)
          refine W.widen (k := 1) (n := 7) (Nat.le_refl _) (Nat.le_refl _) ?_
          have hw72 : true = true := hw9
          obtain ⟨hP, hD⟩ := re_PD (w := (RDW G rh rd sh a mn9 lt9 nu9 sg9 ++ SBB G sh sz)) hP hD [2, 3, 4, 5, 0, 1] (by decide) rfl
          have hfg : (fgS (xt xs) xs.length mm false at9) = (v, false, a) := (by unfold fgS; rw [if_neg (by decide), if_pos (hp (by omega)), ← hd9, hex])
          refine lv_aload_n hx hb dX4_number_75 rfl (lv_at hl 2 rfl) ?_
          refine va_get (D := G.1) (ci := 3) (v := .ref (rd 1)) (C := RX4) (T := TX4) (N := 6) hx hb hts in_X4 hown hK hP 0 rfl rfl 4 (by decide) (hts _ q278) (fun _ h9 => h9) rfl dX4_number_76 ?_
          refine lv_iconst (v := nI 2) hx hb dX4_number_79 (by decide) ?_
          refine lv_aload_n hx hb dX4_number_80 rfl (lv_at hl 2 rfl) ?_
          refine va_get (D := G.1) (ci := 3) (v := .int (nI mn9)) (C := RX4) (T := TX4) (N := 6) hx hb hts in_X4 hown hK hP 0 rfl rfl 2 (by decide) (hts _ q275) (fun _ h9 => h9) rfl dX4_number_81 ?_
          refine n_imul hx hb dX4_number_84 ?_
          refine lv_iload_n hx hb dX4_number_85 rfl (lv_at hl 3 rfl) ?_
          refine n_iadd hx hb dX4_number_86 ?_
          refine lv_iload_n hx hb dX4_number_87 rfl (lv_at hl 1 rfl) ?_
          refine n_iast hx hb hK hP hD hS 2 3 rfl rfl (by omega) (by decide) dX4_number_88 (fun H locs hP hD hS => ?_)
          have hP : va_P G.1 CL (RDW G rh rd sh a mn9 lt9 (va_up nu9 ((2 * mn9) + kk) v) sg9 ++ SBB G sh sz) _ := hP
          have hD : va_D A (RDW G rh rd sh a mn9 lt9 (va_up nu9 ((2 * mn9) + kk) v) sg9 ++ SBB G sh sz) := hD
          have e_at_ : a = (fgS (xt xs) xs.length mm false at9).2.2 := (by rw [hfg])
          rw [e_at_] at hP hD
          have e_nu : (va_up nu9 ((2 * mn9) + kk) v) = (va_up nu9 (2 * mn9 + kk) (fgS (xt xs) xs.length mm false at9).1) := (by rw [hfg])
          rw [e_nu] at hP hD
          subst hQ
          refine vx_ret ?_
          exact ret_v hx hb hr hlk () (by rw [hfg]) hP hD hS dX4_number_89
      · skip
        refine lv_aload_n hx hb dX4_number_11 rfl (lv_at hl 2 rfl) ?_
        refine callVi (As := []) (rest := []) (wc := (RDW G rh rd sh a mn9 lt9 nu9 sg9 ++ SBB G sh sz)) (wr := ([] : va_W)) ⟨hx, hb, hml, hown, hts⟩ (m_X4_here l G rh rd sh a mn9 lt9 nu9 sg9 sz xs (by first | assumption | omega) (by first | assumption | omega)) (cwV 0 hts (lw_V q1566 q1568 qs28 q97 q1569) rfl rfl rfl (by decide +kernel) ⟨Nat.le_of_ble_eq_true rfl, Nat.le_of_ble_eq_true rfl⟩) hK hZ hA hP hD hS [0, 1, 2, 3, 4, 5] [] rfl rfl (by decide) (by decide) (by decide) 0 3 rfl rfl rfl hl.1 (Nat.le_of_ble_eq_true rfl) ⟨Nat.le_of_ble_eq_true rfl, Nat.le_of_ble_eq_true rfl⟩ rfl dX4_number_12 (fun r9 u9 H locs hw9 hP hD hS => ?_)
        subst hw9
        have hP : va_P G.1 CL (RDW G rh rd sh a mn9 lt9 nu9 sg9 ++ SBB G sh sz) _ := hP
        have hD : va_D A (RDW G rh rd sh a mn9 lt9 nu9 sg9 ++ SBB G sh sz) := hD
        refine lv_bipush (v := nI 48) hx hb dX4_number_15 (by decide) ?_
        refine lv_bipush (v := nI 57) hx hb dX4_number_17 (by decide) ?_
        refine callSNi (As := [.int (hrI (xt xs) xs.length a), .int (nI 48), .int (nI 57)]) (rest := []) (wc := ([] : va_W)) (wr := (RDW G rh rd sh a mn9 lt9 nu9 sg9 ++ SBB G sh sz)) ⟨hx, hb, hml, hown, hts⟩ (m_X1_in l G (hrI (xt xs) xs.length a) (nI 48) (nI 57) ) (va_cnB 3 hts (lw_meth q1115) rfl rfl rfl (KS.nw hZ q1576 rfl) (hts _ q88) (by decide +kernel) ⟨Nat.le_of_ble_eq_true rfl, Nat.le_of_ble_eq_true rfl⟩) (hts _ q1114) hK hZ hA hP hD hS [] [0, 1, 2, 3, 4, 5] rfl rfl (by decide) (by decide) (by decide) rfl hl.1 (Nat.le_of_ble_eq_true rfl) ⟨Nat.le_of_ble_eq_true rfl, Nat.le_of_ble_eq_true rfl⟩ rfl dX4_number_19 (fun r9 u9 H locs hw9 hP hD hS => ?_)
        subst hw9
        have hP : va_P G.1 CL (RDW G rh rd sh a mn9 lt9 nu9 sg9 ++ SBB G sh sz) _ := hP
        have hD : va_D A (RDW G rh rd sh a mn9 lt9 nu9 sg9 ++ SBB G sh sz) := hD
        refine b_if_eq (tgt := 61) hx hb dX4_number_22 (by decide) (fun c22 => ?_) (fun c22 => ?_)
        · skip
          have hex : dgs (xt xs) xs.length (mm - i) a v = (v, a) := dgs_0 ((isDg_in (xt_lt hz)).symm.trans c22)
          refine lv_aload_n hx hb dX4_number_61 rfl (lv_at hl 2 rfl) ?_
          refine lv_iload hx hb dX4_number_62 (lv_at hl 0 rfl) ?_
          refine n_if_le (tgt := 71) hx hb dX4_number_64 (by decide) (by omega) (fun c64 => ?_) (fun c64 => ?_)
          · skip
            refine lv_iconst (v := nI 0) hx hb dX4_number_71 (by decide) ?_
            refine callXVv (As := [.int (nI 0)]) (rest := []) (wc := (RDW G rh rd sh a mn9 lt9 nu9 sg9)) (wr := (SBB G sh sz)) ⟨hx, hb, hml, hown, hts⟩ (m_X4_must l G rh rd sh a mn9 lt9 nu9 sg9 false (by first | assumption | omega)) (cwV 1 hts (lw_V q1577 q1579 qs30 q97 q1580) rfl rfl rfl (by decide +kernel) ⟨Nat.le_of_ble_eq_true rfl, Nat.le_of_ble_eq_true rfl⟩) hK hZ hA hP hD hS [0, 1, 2, 3] [4, 5] rfl rfl (by decide) (by decide) (by decide) 0 3 rfl rfl rfl hl.1 (Nat.le_of_ble_eq_true rfl) ⟨Nat.le_of_ble_eq_true rfl, Nat.le_of_ble_eq_true rfl⟩ rfl dX4_number_72 (fun ce9 q9 u9 H locs hw9 hP hD hS hce hcv hcl => ?_) (fun u9 H locs hw9 hP hD hS => ?_)
            · skip
              have hx72 : false = false := hw9
              obtain ⟨hP, hD⟩ := re_PD (w := (RDW G rh rd sh a mn9 lt9 nu9 sg9 ++ SBB G sh sz ++ FTW G q9 (nI a))) hP hD [2, 3, 4, 5, 0, 1, 6] (by decide) rfl
              have hcl : s.vm.findClass RX8 = some ce9.cls := hcl
              have e_at_ : a = at9 := (by omega)
              try rw [e_at_] at hP hD
              have e_r : (nI a) = (nI at9) := (congrArg nI (by omega))
              try rw [e_r] at hP hD
              subst hQ
              refine vx_widen (k := 1) (n := 7) (Nat.le_of_ble_eq_true rfl) (Nat.le_of_ble_eq_true rfl) ?_
              exact out_x (by rw [hnt]; exact fun x9 hx9 => nomatch hx9) hlk () (by dsimp only at *; first | (rw [show i = 0 by omega] at hex hd9; unfold fgS; rw [if_neg (by decide)]; split; exact absurd ‹_› (by first | (rw [show at9 = a by omega]; rw [((isDg_in (xt_lt hz)).symm.trans c22)]; decide) | (exfalso; omega)); rfl) ) hP hD hS hce hcv hcl (Nat.le_refl _) (Nat.le_refl _)
            refine W.widen (k := 1) (n := 7) (Nat.le_refl _) (Nat.le_refl _) ?_
            have hw72 : false = true := hw9
            obtain ⟨hP, hD⟩ := re_PD (w := (RDW G rh rd sh a mn9 lt9 nu9 sg9 ++ SBB G sh sz)) hP hD [2, 3, 4, 5, 0, 1] (by decide) rfl
            exact absurd hw72 (by decide)
          · skip
            refine lv_iconst (v := nI 1) hx hb dX4_number_67 (by decide) ?_
            refine lv_goto (tgt := 72) hx hb dX4_number_68 (by decide) ?_
            refine callXVv (As := [.int (nI 1)]) (rest := []) (wc := (RDW G rh rd sh a mn9 lt9 nu9 sg9)) (wr := (SBB G sh sz)) ⟨hx, hb, hml, hown, hts⟩ (m_X4_must l G rh rd sh a mn9 lt9 nu9 sg9 true (by first | assumption | omega)) (cwV 1 hts (lw_V q1577 q1579 qs30 q97 q1580) rfl rfl rfl (by decide +kernel) ⟨Nat.le_of_ble_eq_true rfl, Nat.le_of_ble_eq_true rfl⟩) hK hZ hA hP hD hS [0, 1, 2, 3] [4, 5] rfl rfl (by decide) (by decide) (by decide) 0 3 rfl rfl rfl hl.1 (Nat.le_of_ble_eq_true rfl) ⟨Nat.le_of_ble_eq_true rfl, Nat.le_of_ble_eq_true rfl⟩ rfl dX4_number_72 (fun ce9 q9 u9 H locs hw9 hP hD hS hce hcv hcl => ?_) (fun u9 H locs hw9 hP hD hS => ?_)
            · skip
              have hx72 : true = false := hw9
              obtain ⟨hP, hD⟩ := re_PD (w := (RDW G rh rd sh a mn9 lt9 nu9 sg9 ++ SBB G sh sz ++ FTW G q9 (nI a))) hP hD [2, 3, 4, 5, 0, 1, 6] (by decide) rfl
              exact absurd hx72 (by decide)
            refine W.widen (k := 1) (n := 7) (Nat.le_refl _) (Nat.le_refl _) ?_
            have hw72 : true = true := hw9
            obtain ⟨hP, hD⟩ := re_PD (w := (RDW G rh rd sh a mn9 lt9 nu9 sg9 ++ SBB G sh sz)) hP hD [2, 3, 4, 5, 0, 1] (by decide) rfl
            have hfg : (fgS (xt xs) xs.length mm false at9) = (v, false, a) := (by unfold fgS; rw [if_neg (by decide), if_pos (hp (by omega)), ← hd9, hex])
            refine lv_aload_n hx hb dX4_number_75 rfl (lv_at hl 2 rfl) ?_
            refine va_get (D := G.1) (ci := 3) (v := .ref (rd 1)) (C := RX4) (T := TX4) (N := 6) hx hb hts in_X4 hown hK hP 0 rfl rfl 4 (by decide) (hts _ q278) (fun _ h9 => h9) rfl dX4_number_76 ?_
            refine lv_iconst (v := nI 2) hx hb dX4_number_79 (by decide) ?_
            refine lv_aload_n hx hb dX4_number_80 rfl (lv_at hl 2 rfl) ?_
            refine va_get (D := G.1) (ci := 3) (v := .int (nI mn9)) (C := RX4) (T := TX4) (N := 6) hx hb hts in_X4 hown hK hP 0 rfl rfl 2 (by decide) (hts _ q275) (fun _ h9 => h9) rfl dX4_number_81 ?_
            refine n_imul hx hb dX4_number_84 ?_
            refine lv_iload_n hx hb dX4_number_85 rfl (lv_at hl 3 rfl) ?_
            refine n_iadd hx hb dX4_number_86 ?_
            refine lv_iload_n hx hb dX4_number_87 rfl (lv_at hl 1 rfl) ?_
            refine n_iast hx hb hK hP hD hS 2 3 rfl rfl (by omega) (by decide) dX4_number_88 (fun H locs hP hD hS => ?_)
            have hP : va_P G.1 CL (RDW G rh rd sh a mn9 lt9 (va_up nu9 ((2 * mn9) + kk) v) sg9 ++ SBB G sh sz) _ := hP
            have hD : va_D A (RDW G rh rd sh a mn9 lt9 (va_up nu9 ((2 * mn9) + kk) v) sg9 ++ SBB G sh sz) := hD
            have e_at_ : a = (fgS (xt xs) xs.length mm false at9).2.2 := (by rw [hfg])
            rw [e_at_] at hP hD
            have e_nu : (va_up nu9 ((2 * mn9) + kk) v) = (va_up nu9 (2 * mn9 + kk) (fgS (xt xs) xs.length mm false at9).1) := (by rw [hfg])
            rw [e_nu] at hP hD
            subst hQ
            refine vx_ret ?_
            exact ret_v hx hb hr hlk () (by rw [hfg]) hP hD hS dX4_number_89
        · skip
          have hdg : isDg (xt xs) xs.length a = true := (isDg_in (xt_lt hz)).symm.trans c22
          have hdg9 := isDg_lt hdg
          have hdg8 : 48 ≤ xs.getD a 0 ∧ xs.getD a 0 ≤ 57 := hdg9.2
          have hv3 : 10 ^ i ≤ 10 ^ 3 := Nat.pow_le_pow_right (by decide) (by omega)
          refine lv_bipush (v := nI 10) hx hb dX4_number_25 (by decide) ?_
          refine lv_iload_n hx hb dX4_number_27 rfl (lv_at hl 1 rfl) ?_
          refine n_imul hx hb dX4_number_28 ?_
          refine lv_aload_n hx hb dX4_number_29 rfl (lv_at hl 2 rfl) ?_
          refine va_get (D := G.1) (ci := 3) (v := .ref sh) (C := RX4) (T := TX4) (N := 6) hx hb hts in_X4 hown hK hP 0 rfl rfl 0 (by decide) (hts _ q273) (fun _ h9 => h9) rfl dX4_number_30 ?_
          refine lv_aload_n hx hb dX4_number_33 rfl (lv_at hl 2 rfl) ?_
          refine va_get (D := G.1) (ci := 3) (v := .int (nI a)) (C := RX4) (T := TX4) (N := 6) hx hb hts in_X4 hown hK hP 0 rfl rfl 1 (by decide) (hts _ q274) (fun _ h9 => h9) rfl dX4_number_34 ?_
          refine callVi (As := [.int (nI a)]) (rest := [.int (nI (10 * v))]) (wc := (SBB G sh sz)) (wr := (RDW G rh rd sh a mn9 lt9 nu9 sg9)) ⟨hx, hb, hml, hown, hts⟩ (m_J3_charAt l G sh sz xs a (by first | assumption | omega) hdg9.1) (cwV 1 hts (lw_V q1571 q1516 q1517 q94 q1518) rfl rfl rfl (by decide +kernel) ⟨Nat.le_of_ble_eq_true rfl, Nat.le_of_ble_eq_true rfl⟩) hK hZ hA hP hD hS [4, 5] [0, 1, 2, 3] rfl rfl (by decide) (by decide) (by decide) 0 9 rfl rfl rfl hl.1 (Nat.le_of_ble_eq_true rfl) ⟨Nat.le_of_ble_eq_true rfl, Nat.le_of_ble_eq_true rfl⟩ rfl dX4_number_37 (fun r9 u9 H locs hw9 hP hD hS => ?_)
          subst hw9
          have hP : va_P G.1 CL (RDW G rh rd sh a mn9 lt9 nu9 sg9 ++ SBB G sh sz) _ := hP
          have hD : va_D A (RDW G rh rd sh a mn9 lt9 nu9 sg9 ++ SBB G sh sz) := hD
          refine n_iadd hx hb dX4_number_40 ?_
          refine lv_bipush (v := nI 48) hx hb dX4_number_41 (by decide) ?_
          refine n_isub hx hb (by omega) dX4_number_43 ?_
          refine lv_istore_n (lv' := [(3, .int (nI (((10 * v) + (xs.getD a 0)) - 48))), (4, .int (nI i)), (0, .ref rh), (1, .int (nI kk)), (2, .int (nI mm))]) hx hb dX4_number_44 rfl hl (by decide) rfl (fun ls hl => ?_)
          refine lv_aload_n hx hb dX4_number_45 rfl (lv_at hl 2 rfl) ?_
          refine lv_dup hx hb dX4_number_46 rfl ?_
          refine va_get (D := G.1) (ci := 3) (v := .int (nI a)) (C := RX4) (T := TX4) (N := 6) hx hb hts in_X4 hown hK hP 0 rfl rfl 1 (by decide) (hts _ q274) (fun _ h9 => h9) rfl dX4_number_47 ?_
          refine lv_iconst (v := nI 1) hx hb dX4_number_50 (by decide) ?_
          refine n_iadd hx hb dX4_number_51 ?_
          refine va_put (D := G.1) (ci := 3) (v := .int (nI (a + 1))) (ty := .int) (C := RX4) (T := TX4) (N := 6) hx hb hts in_X4 tyX4 tyX4_ok nmX4 hown hK hP hD hS 0 rfl rfl 1 (by decide) (hts _ q274) (fun _ h9 => h9) rfl (by decide +kernel) rfl rfl (Nat.le_of_ble_eq_true rfl) dX4_number_52 (fun H locs hP hD hS => ?_)
          have hP : va_P G.1 CL (RDW G rh rd sh (a + 1) mn9 lt9 nu9 sg9 ++ SBB G sh sz) _ := hP
          have hD : va_D A (RDW G rh rd sh (a + 1) mn9 lt9 nu9 sg9 ++ SBB G sh sz) := hD
          refine lv_iinc (v := nI (i + 1)) (lv' := [(4, .int (nI (i + 1))), (3, .int (nI (((10 * v) + (xs.getD a 0)) - 48))), (0, .ref rh), (1, .int (nI kk)), (2, .int (nI mm))]) hx hb dX4_number_55 hl (k := 1) rfl (nI_add _ _) (by decide) rfl (fun ls hl => ?_)
          refine lv_goto (tgt := 5) hx hb dX4_number_58 (by decide) ?_
          exact ih5 (((10 * v) + (xs.getD a 0)) - 48) (i + 1) (a + 1) (by omega) (by omega) (by omega) (by have := hdg9.1; omega) (by rw [show mm - (i + 1) = mm - i - 1 by omega]; exact (dgs_s hdg (by omega)).trans hd9) (fun _ => by by_cases h : 0 < i; exact hp h; rw [show at9 = a by omega]; exact hdg) (by rw [Nat.pow_succ]; omega) _ _ _ hP hD hS (lv_sub hl [0, 1, 2, 3, 4] rfl)
  exact lp5 _ 0 0 at9 (Nat.lt_succ_self _) (by omega) (by omega) hat rfl (fun h => absurd h (Nat.lt_irrefl _)) (by decide) _ _ _ hP hD hS (lv_sub hl [0, 1, 2, 3, 4] rfl)
