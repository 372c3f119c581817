theorem rd_x {t : Nat → Nat} {n fu a : Nat} {os : List ORD} {r : Bool × Nat × List ORD} (h : preO os (rdP t n (fu + 1) a) = r) (hx : (ordP t n a).1 = true) : r.1 = true ∧ r.2.1 = (ordP t n a).2.1 := by
  rw [rdP_w hx] at h; subst h; exact ⟨rfl, rfl⟩
theorem rd_m {t : Nat → Nat} {n fu a : Nat} {os : List ORD} {r : Bool × Nat × List ORD} (h : preO os (rdP t n (fu + 1) a) = r) (hx : (ordP t n a).1 = false) (h2 : hrI t n (ordP t n a).2.1 = nI 59) : preO (os ++ [(ordP t n a).2.2]) (rdP t n fu ((ordP t n a).2.1 + 1)) = r := by
  rw [rdP_m hx h2, preO_app] at h; exact h
theorem rd_e {t : Nat → Nat} {n fu a : Nat} {os : List ORD} {r : Bool × Nat × List ORD} (h : preO os (rdP t n (fu + 1) a) = r) (hx : (ordP t n a).1 = false) (h2 : ¬ hrI t n (ordP t n a).2.1 = nI 59) : r = (decide ((ordP t n a).2.1 < n), (ordP t n a).2.1, os ++ [(ordP t n a).2.2]) := by
  rw [rdP_e hx h2] at h; exact h.symm
theorem HoldR.same {lt nu sg lt2 nu2 sg2 : Nat → Nat} {i k : Nat} {o : ORD} (h : HoldR lt nu sg i o) (hs : SameR lt nu sg lt2 nu2 sg2 k) (hi : i < k) : HoldR lt2 nu2 sg2 i o := by
  obtain ⟨e1, e2, e3, e4⟩ := hs i hi
  unfold HoldR
  rw [e1, e2, e3, e4]; exact h
theorem HR_app {lt nu sg lt2 nu2 sg2 : Nat → Nat} {os : List ORD} {k : Nat} {o : ORD} (hk : os.length = k) (h : ∀ i o', os[i]? = some o' → HoldR lt nu sg i o') (hs : SameR lt nu sg lt2 nu2 sg2 k) (hn : HoldR lt2 nu2 sg2 k o) : ∀ i o', (os ++ [o])[i]? = some o' → HoldR lt2 nu2 sg2 i o' := fun i o' ho => by
  by_cases hi : i < os.length
  · rw [List.getElem?_append_left hi] at ho
    exact (h i o' ho).same hs (by omega)
  · rw [List.getElem?_append_right (by omega)] at ho
    have hz : i - os.length < 1 := (List.getElem?_eq_some_iff.mp ho).1
    rw [show i - os.length = 0 by omega] at ho
    cases ho
    rw [show i = k by omega]; exact hn
set_option maxHeartbeats 8000000 in
set_option maxRecDepth 100000 in
theorem m_X4_read (l : Launch) (G : GG) (rh : Nat) (rd : Nat → Nat) (sh : Nat) (at9 : Nat) (mn9 : Nat) (lt9 : Nat → Nat) (nu9 : Nat → Nat) (sg9 : Nat → Nat) (sz : SBZ) (xs : List Nat) (hz : SBh sz xs) (hst : l.stackTraces = false) : MX l G yX4_read cX4_read 1 none ⟨9, 130, 910, 170⟩ [.ref rh] (RDW G rh rd sh at9 mn9 lt9 nu9 sg9 ++ SBB G sh sz) (Qv_ G (fun (u : (Nat) × (Nat → Nat) × (Nat → Nat) × (Nat → Nat)) => (rdP (xt xs) xs.length 62 0).1 = false ∧ (rdP (xt xs) xs.length 62 0).2.2.length ≤ 31 ∧ ∀ i o, (rdP (xt xs) xs.length 62 0).2.2[i]? = some o → HoldR u.2.1 u.2.2.1 u.2.2.2 i o) (fun (u : (Nat) × (Nat → Nat) × (Nat → Nat) × (Nat → Nat)) => (RDW G rh rd sh u.1 ((rdP (xt xs) xs.length 62 0).2.2.length) u.2.1 u.2.2.1 u.2.2.2 ++ SBB G sh sz))) (XQ G (fun (u : (Nat) × (Nat) × (Nat → Nat) × (Nat → Nat) × (Nat → Nat)) => RX8) (fun (u : (Nat) × (Nat) × (Nat → Nat) × (Nat → Nat) × (Nat → Nat)) => (rdP (xt xs) xs.length 62 0).1 = true) (fun (q9 : Nat) (u : (Nat) × (Nat) × (Nat → Nat) × (Nat → Nat) × (Nat → Nat)) => (RDW G rh rd sh u.1 u.2.1 u.2.2.1 u.2.2.2.1 u.2.2.2.2 ++ SBB G sh sz ++ FTW G q9 (nI (rdP (xt xs) xs.length 62 0).2.1)))) := by
  refine MX.of (by decide) (Nat.le_of_ble_eq_true rfl) ?_
  intro p e s m args below meth cd A C hini hA hK hZ hP hD hnt ls hl
  generalize hQ : vx_MQ below ((Qv_ G (fun (u : (Nat) × (Nat → Nat) × (Nat → Nat) × (Nat → Nat)) => (rdP (xt xs) xs.length 62 0).1 = false ∧ (rdP (xt xs) xs.length 62 0).2.2.length ≤ 31 ∧ ∀ i o, (rdP (xt xs) xs.length 62 0).2.2[i]? = some o → HoldR u.2.1 u.2.2.1 u.2.2.2 i o) (fun (u : (Nat) × (Nat → Nat) × (Nat → Nat) × (Nat → Nat)) => (RDW G rh rd sh u.1 ((rdP (xt xs) xs.length 62 0).2.2.length) u.2.1 u.2.2.1 u.2.2.2 ++ SBB G sh sz))) A) ((XQ G (fun (u : (Nat) × (Nat) × (Nat → Nat) × (Nat → Nat) × (Nat → Nat)) => RX8) (fun (u : (Nat) × (Nat) × (Nat → Nat) × (Nat → Nat) × (Nat → Nat)) => (rdP (xt xs) xs.length 62 0).1 = true) (fun (q9 : Nat) (u : (Nat) × (Nat) × (Nat → Nat) × (Nat → Nat) × (Nat → Nat)) => (RDW G rh rd sh u.1 u.2.1 u.2.2.1 u.2.2.2.1 u.2.2.2.2 ++ SBB G sh sz ++ FTW G q9 (nI (rdP (xt xs) xs.length 62 0).2.1)))) A) args s (⟨9, 130, 910, 170⟩ : Room).cells (⟨9, 130, 910, 170⟩ : Room).slots A = Q
  obtain ⟨hx, hb, hr, hts, hown, hlk, hml⟩ := C
  have hown : s.vm.findClass RX4 = some m.cls := hown
  have hS : va_S A s.heap s.heap [] := va_S.rf
  have hl : lv_has ls 1 [(0, .ref rh)] := hl
  have hl6 := hz.len
  refine lv_aload_n hx hb dX4_read_0 rfl (lv_at hl 0 rfl) ?_
  refine lv_iconst (v := nI 0) hx hb dX4_read_1 (by decide) ?_
  refine va_put (D := G.1) (ci := 3) (v := .int (nI 0)) (ty := .int) (C := RX4) (T := TX4) (N := 6) hx hb hts in_X4 tyX4 tyX4_ok nmX4 hown hK hP hD hS 0 rfl rfl 1 (by decide) (hts _ q274) (fun _ h9 => h9) rfl (by decide +kernel) rfl rfl (Nat.le_of_ble_eq_true rfl) dX4_read_2 (fun H locs hP hD hS => ?_)
  have hP : va_P G.1 CL (RDW G rh rd sh 0 mn9 lt9 nu9 sg9 ++ SBB G sh sz) _ := hP
  have hD : va_D A (RDW G rh rd sh 0 mn9 lt9 nu9 sg9 ++ SBB G sh sz) := hD
  refine lv_aload_n hx hb dX4_read_5 rfl (lv_at hl 0 rfl) ?_
  refine lv_iconst (v := nI 0) hx hb dX4_read_6 (by decide) ?_
  refine va_put (D := G.1) (ci := 3) (v := .int (nI 0)) (ty := .int) (C := RX4) (T := TX4) (N := 6) hx hb hts in_X4 tyX4 tyX4_ok nmX4 hown hK hP hD hS 0 rfl rfl 2 (by decide) (hts _ q275) (fun _ h9 => h9) rfl (by decide +kernel) rfl rfl (Nat.le_of_ble_eq_true rfl) dX4_read_7 (fun H locs hP hD hS => ?_)
  have hP : va_P G.1 CL (RDW G rh rd sh 0 0 lt9 nu9 sg9 ++ SBB G sh sz) _ := hP
  have hD : va_D A (RDW G rh rd sh 0 0 lt9 nu9 sg9 ++ SBB G sh sz) := hD
  have lp10 : ∀ (f : Nat) (k : Nat) (a : Nat) (lt : Nat → Nat) (nu : Nat → Nat) (sg : Nat → Nat) (os : List ORD) (fu : Nat), xs.length + 1 - a < f → (os.length = k) → (a ≤ xs.length) → (2 * k ≤ a) → (fu + k = 61) → (preO os (rdP (xt xs) xs.length (fu + 1) a) = (rdP (xt xs) xs.length 62 0)) → (∀ i o, os[i]? = some o → HoldR lt nu sg i o) → ∀ (H : Heap) (locs : List Loc) (ls : Array Slot), va_P G.1 CL (RDW G rh rd sh a k lt nu sg ++ SBB G sh sz) H → va_D A (RDW G rh rd sh a k lt nu sg ++ SBB G sh sz) → va_S A s.heap H locs → lv_has ls 1 [(0, .ref rh)] → W p l e (⟨9, 130, 910, 170⟩ : Room) s m args below meth cd H locs (4 * k) (28 * k) Q (F0 m 10 ls []) := by
    intro f
    induction f with
    | zero => intro k a lt nu sg os fu hf; exact absurd hf (Nat.not_lt_zero _)
    | succ f ih10 =>
      intro k a lt nu sg os fu hf hk ha h2k hfu hpre hH H locs ls hP hD hS hl
      refine lv_aload_n hx hb dX4_read_10 rfl (lv_at hl 0 rfl) ?_
      refine callXVv (As := []) (rest := []) (wc := (RDW G rh rd sh a k lt nu sg ++ SBB G sh sz)) (wr := ([] : va_W)) ⟨hx, hb, hml, hown, hts⟩ (m_X4_order l G rh rd sh a k lt nu sg sz xs (by first | assumption | omega) (by first | assumption | omega) (by first | assumption | omega) (by first | assumption | omega)) (cwV 0 hts (lw_V q1554 q1556 qs25 q97 q1557) rfl rfl rfl (by decide +kernel) ⟨Nat.le_of_ble_eq_true rfl, Nat.le_of_ble_eq_true rfl⟩) hK hZ hA hP hD hS [0, 1, 2, 3, 4, 5] [] rfl rfl (by decide) (by decide) (by decide) 0 3 rfl rfl rfl hl.1 (Nat.le_of_ble_eq_true rfl) ⟨by show (4 * k) + 4 ≤ 130; omega, by show (28 * k) + 28 ≤ 910; omega⟩ rfl dX4_read_11 (fun ce9 q9 u9 H locs hw9 hP hD hS hce hcv hcl => ?_) (fun u9 H locs hw9 hP hD hS => ?_)
      · skip
        obtain ⟨ax_1, lx_1, nx_1, sx_1⟩ := u9
        have hx11 : (ordP (xt xs) xs.length a).1 = true := hw9
        have hP : va_P G.1 CL (RDW G rh rd sh ax_1 k lx_1 nx_1 sx_1 ++ SBB G sh sz ++ FTW G q9 (nI (ordP (xt xs) xs.length a).2.1)) _ := hP
        have hD : va_D A (RDW G rh rd sh ax_1 k lx_1 nx_1 sx_1 ++ SBB G sh sz ++ FTW G q9 (nI (ordP (xt xs) xs.length a).2.1)) := hD
        have hcl : s.vm.findClass RX8 = some ce9.cls := hcl
        have e_r : (nI (ordP (xt xs) xs.length a).2.1) = (nI (rdP (xt xs) xs.length 62 0).2.1) := (congrArg nI (rd_x hpre hx11).2.symm)
        try rw [e_r] at hP hD
        subst hQ
        refine vx_widen (k := 130) (n := 910) (by show ((4 * k) + 4) ≤ 130; omega) (by show ((28 * k) + 28) ≤ 910; omega) ?_
        exact out_x (by rw [hnt]; exact fun x9 hx9 => nomatch hx9) hlk ⟨ax_1, k, lx_1, nx_1, sx_1⟩ (rd_x hpre hx11).1 hP hD hS hce hcv hcl (Nat.le_refl _) (Nat.le_refl _)
      refine W.widen (k := ((4 * k) + 4)) (n := ((28 * k) + 28)) (Nat.le_refl _) (Nat.le_refl _) ?_
      obtain ⟨lt2_2, nu2_2, sg2_2⟩ := u9
      have hw11 : (ordP (xt xs) xs.length a).1 = false ∧ HoldR lt2_2 nu2_2 sg2_2 k (ordP (xt xs) xs.length a).2.2 ∧ SameR lt nu sg lt2_2 nu2_2 sg2_2 k := hw9
      have hP : va_P G.1 CL (RDW G rh rd sh ((ordP (xt xs) xs.length a).2.1) (k + 1) lt2_2 nu2_2 sg2_2 ++ SBB G sh sz) _ := hP
      have hD : va_D A (RDW G rh rd sh ((ordP (xt xs) xs.length a).2.1) (k + 1) lt2_2 nu2_2 sg2_2 ++ SBB G sh sz) := hD
      have hop := ordP_le (t := xt xs) (n := xs.length) ha
      have hop2 := hop.2 hw11.1
      refine lv_aload_n hx hb dX4_read_14 rfl (lv_at hl 0 rfl) ?_
      refine lv_bipush (v := nI 59) hx hb dX4_read_15 (by decide) ?_
      refine callVi (As := [.int (nI 59)]) (rest := []) (wc := (RDW G rh rd sh ((ordP (xt xs) xs.length a).2.1) (k + 1) lt2_2 nu2_2 sg2_2 ++ SBB G sh sz)) (wr := ([] : va_W)) ⟨hx, hb, hml, hown, hts⟩ (m_X4_skip l G rh rd sh ((ordP (xt xs) xs.length a).2.1) (k + 1) lt2_2 nu2_2 sg2_2 sz xs 59 (by first | assumption | omega) hop.1 (by decide)) (cwV 1 hts (lw_V q1562 q1564 qs27 q97 q1565) rfl rfl rfl (by decide +kernel) ⟨Nat.le_of_ble_eq_true rfl, Nat.le_of_ble_eq_true rfl⟩) hK hZ hA hP hD hS [0, 1, 2, 3, 4, 5] [] rfl rfl (by decide) (by decide) (by decide) 0 3 rfl rfl rfl hl.1 (Nat.le_of_ble_eq_true rfl) ⟨by show ((4 * k) + 4) + 0 ≤ 130; omega, by show ((28 * k) + 28) + 0 ≤ 910; omega⟩ rfl dX4_read_17 (fun r9 u9 H locs hw9 hP hD hS => ?_)
      subst hw9
      have hP : va_P G.1 CL (RDW G rh rd sh (if (hrI (xt xs) xs.length ((ordP (xt xs) xs.length a).2.1)) = nI 59 then ((ordP (xt xs) xs.length a).2.1) + 1 else ((ordP (xt xs) xs.length a).2.1)) (k + 1) lt2_2 nu2_2 sg2_2 ++ SBB G sh sz) _ := hP
      have hD : va_D A (RDW G rh rd sh (if (hrI (xt xs) xs.length ((ordP (xt xs) xs.length a).2.1)) = nI 59 then ((ordP (xt xs) xs.length a).2.1) + 1 else ((ordP (xt xs) xs.length a).2.1)) (k + 1) lt2_2 nu2_2 sg2_2 ++ SBB G sh sz) := hD
      refine b_if_ne (tgt := 10) hx hb dX4_read_20 (by decide) (fun c20 => ?_) (fun c20 => ?_)
      · skip
        refine W.widen (k := (4 * (k + 1))) (n := (28 * (k + 1))) (by show ((4 * k) + 4) ≤ (4 * (k + 1)); omega) (by show ((28 * k) + 28) ≤ (28 * (k + 1)); omega) ?_
        have hs9 : (hrI (xt xs) xs.length (ordP (xt xs) xs.length a).2.1) = nI 59 := of_decide_eq_true c20
        have hl9 := hrI_lt hs9 (by decide)
        rw [show (if (hrI (xt xs) xs.length (ordP (xt xs) xs.length a).2.1) = nI 59 then (ordP (xt xs) xs.length a).2.1 + 1 else (ordP (xt xs) xs.length a).2.1) = (ordP (xt xs) xs.length a).2.1 + 1 from if_pos hs9] at hP hD
        exact ih10 (k + 1) ((ordP (xt xs) xs.length a).2.1 + 1) lt2_2 nu2_2 sg2_2 (os ++ [(ordP (xt xs) xs.length a).2.2]) (fu - 1) (by omega) (by simp [hk]) (by omega) (by omega) (by omega) (by have h := rd_m hpre hw11.1 hs9; rw [show fu = fu - 1 + 1 by omega] at h; exact h) (HR_app hk hH hw11.2.2 hw11.2.1) _ _ _ hP hD hS (lv_sub hl [0] rfl)
      · skip
        have hns : ¬ (hrI (xt xs) xs.length (ordP (xt xs) xs.length a).2.1) = nI 59 := of_decide_eq_false c20
        have hre := rd_e hpre hw11.1 hns
        rw [show (if (hrI (xt xs) xs.length ((ordP (xt xs) xs.length a).2.1)) = nI 59 then ((ordP (xt xs) xs.length a).2.1) + 1 else ((ordP (xt xs) xs.length a).2.1)) = (ordP (xt xs) xs.length a).2.1 from if_neg (of_decide_eq_false c20)] at hP hD
        refine lv_aload_n hx hb dX4_read_23 rfl (lv_at hl 0 rfl) ?_
        refine lv_aload_n hx hb dX4_read_24 rfl (lv_at hl 0 rfl) ?_
        refine va_get (D := G.1) (ci := 3) (v := .int (nI ((ordP (xt xs) xs.length a).2.1))) (C := RX4) (T := TX4) (N := 6) hx hb hts in_X4 hown hK hP 0 rfl rfl 1 (by decide) (hts _ q274) (fun _ h9 => h9) rfl dX4_read_25 ?_
        refine lv_aload_n hx hb dX4_read_28 rfl (lv_at hl 0 rfl) ?_
        refine va_get (D := G.1) (ci := 3) (v := .ref sh) (C := RX4) (T := TX4) (N := 6) hx hb hts in_X4 hown hK hP 0 rfl rfl 0 (by decide) (hts _ q273) (fun _ h9 => h9) rfl dX4_read_29 ?_
        refine callVi (As := []) (rest := [.int (nI ((ordP (xt xs) xs.length a).2.1)), .ref rh]) (wc := (SBB G sh sz)) (wr := (RDW G rh rd sh ((ordP (xt xs) xs.length a).2.1) (k + 1) lt2_2 nu2_2 sg2_2)) ⟨hx, hb, hml, hown, hts⟩ (m_J3_length l G sh sz xs (by first | assumption | omega)) (cwV 0 hts (lw_V q1570 q857 q2190 q94 q858) rfl rfl rfl (by decide +kernel) ⟨Nat.le_of_ble_eq_true rfl, Nat.le_of_ble_eq_true rfl⟩) hK hZ hA hP hD hS [4, 5] [0, 1, 2, 3] rfl rfl (by decide) (by decide) (by decide) 0 9 rfl rfl rfl hl.1 (Nat.le_of_ble_eq_true rfl) ⟨by show ((4 * k) + 4) + 0 ≤ 130; omega, by show ((28 * k) + 28) + 0 ≤ 910; omega⟩ rfl dX4_read_32 (fun r9 u9 H locs hw9 hP hD hS => ?_)
        subst hw9
        have hP : va_P G.1 CL (RDW G rh rd sh ((ordP (xt xs) xs.length a).2.1) (k + 1) lt2_2 nu2_2 sg2_2 ++ SBB G sh sz) _ := hP
        have hD : va_D A (RDW G rh rd sh ((ordP (xt xs) xs.length a).2.1) (k + 1) lt2_2 nu2_2 sg2_2 ++ SBB G sh sz) := hD
        refine n_cmp_ne (tgt := 42) hx hb dX4_read_35 (by decide) (by omega) (by omega) (fun c35 => ?_) (fun c35 => ?_)
        · skip
          refine lv_iconst (v := nI 0) hx hb dX4_read_42 (by decide) ?_
          refine callXVv (As := [.int (nI 0)]) (rest := []) (wc := (RDW G rh rd sh ((ordP (xt xs) xs.length a).2.1) (k + 1) lt2_2 nu2_2 sg2_2)) (wr := (SBB G sh sz)) ⟨hx, hb, hml, hown, hts⟩ (m_X4_must l G rh rd sh ((ordP (xt xs) xs.length a).2.1) (k + 1) lt2_2 nu2_2 sg2_2 false (by first | assumption | omega)) (cwV 1 hts (lw_V q1577 q1579 qs30 q97 q1580) rfl rfl rfl (by decide +kernel) ⟨Nat.le_of_ble_eq_true rfl, Nat.le_of_ble_eq_true rfl⟩) hK hZ hA hP hD hS [0, 1, 2, 3] [4, 5] rfl rfl (by decide) (by decide) (by decide) 0 3 rfl rfl rfl hl.1 (Nat.le_of_ble_eq_true rfl) ⟨by show ((4 * k) + 4) + 1 ≤ 130; omega, by show ((28 * k) + 28) + 7 ≤ 910; omega⟩ rfl dX4_read_43 (fun ce9 q9 u9 H locs hw9 hP hD hS hce hcv hcl => ?_) (fun u9 H locs hw9 hP hD hS => ?_)
          · skip
            have hx43 : false = false := hw9
            obtain ⟨hP, hD⟩ := re_PD (w := (RDW G rh rd sh ((ordP (xt xs) xs.length a).2.1) (k + 1) lt2_2 nu2_2 sg2_2 ++ SBB G sh sz ++ FTW G q9 (nI ((ordP (xt xs) xs.length a).2.1)))) hP hD [2, 3, 4, 5, 0, 1, 6] (by decide) rfl
            have hcl : s.vm.findClass RX8 = some ce9.cls := hcl
            have e_r : (nI ((ordP (xt xs) xs.length a).2.1)) = (nI (rdP (xt xs) xs.length 62 0).2.1) := (by rw [hre])
            try rw [e_r] at hP hD
            subst hQ
            refine vx_widen (k := 130) (n := 910) (by show (((4 * k) + 4) + 1) ≤ 130; omega) (by show (((28 * k) + 28) + 7) ≤ 910; omega) ?_
            exact out_x (by rw [hnt]; exact fun x9 hx9 => nomatch hx9) hlk ⟨(ordP (xt xs) xs.length a).2.1, (k + 1), lt2_2, nu2_2, sg2_2⟩ (by rw [hre]; exact decide_eq_true (by have := hop.1; omega)) hP hD hS hce hcv hcl (Nat.le_refl _) (Nat.le_refl _)
          refine W.widen (k := (((4 * k) + 4) + 1)) (n := (((28 * k) + 28) + 7)) (Nat.le_refl _) (Nat.le_refl _) ?_
          have hw43 : false = true := hw9
          obtain ⟨hP, hD⟩ := re_PD (w := (RDW G rh rd sh ((ordP (xt xs) xs.length a).2.1) (k + 1) lt2_2 nu2_2 sg2_2 ++ SBB G sh sz)) hP hD [2, 3, 4, 5, 0, 1] (by decide) rfl
          exact absurd hw43 (by decide)
        · skip
          refine lv_iconst (v := nI 1) hx hb dX4_read_38 (by decide) ?_
          refine lv_goto (tgt := 43) hx hb dX4_read_39 (by decide) ?_
          refine callXVv (As := [.int (nI 1)]) (rest := []) (wc := (RDW G rh rd sh ((ordP (xt xs) xs.length a).2.1) (k + 1) lt2_2 nu2_2 sg2_2)) (wr := (SBB G sh sz)) ⟨hx, hb, hml, hown, hts⟩ (m_X4_must l G rh rd sh ((ordP (xt xs) xs.length a).2.1) (k + 1) lt2_2 nu2_2 sg2_2 true (by first | assumption | omega)) (cwV 1 hts (lw_V q1577 q1579 qs30 q97 q1580) rfl rfl rfl (by decide +kernel) ⟨Nat.le_of_ble_eq_true rfl, Nat.le_of_ble_eq_true rfl⟩) hK hZ hA hP hD hS [0, 1, 2, 3] [4, 5] rfl rfl (by decide) (by decide) (by decide) 0 3 rfl rfl rfl hl.1 (Nat.le_of_ble_eq_true rfl) ⟨by show ((4 * k) + 4) + 1 ≤ 130; omega, by show ((28 * k) + 28) + 7 ≤ 910; omega⟩ rfl dX4_read_43 (fun ce9 q9 u9 H locs hw9 hP hD hS hce hcv hcl => ?_) (fun u9 H locs hw9 hP hD hS => ?_)
          · skip
            have hx43 : true = false := hw9
            obtain ⟨hP, hD⟩ := re_PD (w := (RDW G rh rd sh ((ordP (xt xs) xs.length a).2.1) (k + 1) lt2_2 nu2_2 sg2_2 ++ SBB G sh sz ++ FTW G q9 (nI ((ordP (xt xs) xs.length a).2.1)))) hP hD [2, 3, 4, 5, 0, 1, 6] (by decide) rfl
            exact absurd hx43 (by decide)
          refine W.widen (k := (((4 * k) + 4) + 1)) (n := (((28 * k) + 28) + 7)) (Nat.le_refl _) (Nat.le_refl _) ?_
          have hw43 : true = true := hw9
          obtain ⟨hP, hD⟩ := re_PD (w := (RDW G rh rd sh ((ordP (xt xs) xs.length a).2.1) (k + 1) lt2_2 nu2_2 sg2_2 ++ SBB G sh sz)) hP hD [2, 3, 4, 5, 0, 1] (by decide) rfl
          have e_mn : (k + 1) = (rdP (xt xs) xs.length 62 0).2.2.length := (by rw [hre]; simp [hk])
          rw [e_mn] at hP hD
          subst hQ
          refine W.widen (k := 130) (n := 910) (by show (((4 * k) + 4) + 1) ≤ 130; omega) (by show (((28 * k) + 28) + 7) ≤ 910; omega) ?_
          refine vx_ret ?_
          exact ret_v hx hb hr hlk (⟨(ordP (xt xs) xs.length a).2.1, lt2_2, nu2_2, sg2_2⟩) (by rw [hre]; exact ⟨decide_eq_false (by omega), by simp [hk]; omega, HR_app hk hH hw11.2.2 hw11.2.1⟩) hP hD hS dX4_read_46
  refine W.widen (k := (4 * 0)) (n := (28 * 0)) (by show 0 ≤ (4 * 0); omega) (by show 0 ≤ (28 * 0); omega) ?_
  exact lp10 _ 0 0 lt9 nu9 sg9 ([] : List ORD) 61 (Nat.lt_succ_self _) rfl (by omega) (by omega) (by omega) (by unfold preO; rfl) (fun i o h => absurd h (by simp)) _ _ _ hP hD hS (lv_sub hl [0] rfl)
