set_option maxHeartbeats 4000000 in
set_option maxRecDepth 100000 in
theorem m_X1_account (l : Launch) (G : GG) (vh : Nat) (ph : Nat) (th : Nat) (svh : Nat) (hs9 : Bool) (ah : Nat) (bh : Nat) (lh : Nat) (rh : Nat) (fa9 : Int32) (rf9 : Int32) (de9 : Int32) (pd : Nat → Nat) (nr : Nat) (nc : Nat) (pL : Nat → Nat) (pG : Nat → Nat) (pB : Nat → Bool) (pk : Nat → Int32) (pa : Nat → Nat) (pt : Nat → Nat) (pm : Nat) (bz : SBZ) (pz : PZA) (ks : List PS) (ss : List PS) (wa : Int32) (bs9 : List Nat) (hd : 2 ≤ nr ∧ nr ≤ 3 ∧ 2 ≤ nc ∧ nc ≤ 3) (hIC : ICok G) (hzb : SBh bz bs9) (hz : PAh pz ks ss) (hst : l.stackTraces = false) : MX l G yX1_account cX1_account 3 (some .int) ⟨7, 6, 32, 3074⟩ [.ref vh, .int wa] (VTW G vh ph th svh hs9 ah bh lh rh fa9 rf9 de9 ++ PW G ph pd nr nc pL pG pB pk pa pt pm ++ SBB G bh bz ++ PAW G ah pz ks ss) (Qi_ G (fun (r : Int32) (_ : Unit) => (r = (acV nr nc pB pk bs9.length ks.length wa)) ∧ (ac1 wa = nI 0)) (fun (_ : Unit) => (VTW G vh ph th svh hs9 ah bh lh rh fa9 rf9 de9 ++ PW G ph pd nr nc pL pG pB pk pa pt pm ++ SBB G bh bz ++ PAW G ah pz ks ss))) (XQ G (fun (_ : Unit) => RJ12) (fun (_ : Unit) => ac1 wa = nI 1) (fun (q9 : Nat) (_ : Unit) => (VTW G vh ph th svh hs9 ah bh lh rh fa9 rf9 de9 ++ PW G ph pd nr nc pL pG pB pk pa pt pm ++ SBB G bh bz ++ PAW G ah pz ks ss))) := by
  refine MX.ofN (by decide) (Nat.le_of_ble_eq_true rfl) ?_
  intro p e s m args below meth cd A C hnm hini hA hK hZ hP hD hnt ls hl
  generalize hQ : vx_MQ below ((Qi_ G (fun (r : Int32) (_ : Unit) => (r = (acV nr nc pB pk bs9.length ks.length wa)) ∧ (ac1 wa = nI 0)) (fun (_ : Unit) => (VTW G vh ph th svh hs9 ah bh lh rh fa9 rf9 de9 ++ PW G ph pd nr nc pL pG pB pk pa pt pm ++ SBB G bh bz ++ PAW G ah pz ks ss))) A) ((XQ G (fun (_ : Unit) => RJ12) (fun (_ : Unit) => ac1 wa = nI 1) (fun (q9 : Nat) (_ : Unit) => (VTW G vh ph th svh hs9 ah bh lh rh fa9 rf9 de9 ++ PW G ph pd nr nc pL pG pB pk pa pt pm ++ SBB G bh bz ++ PAW G ah pz ks ss))) A) args s (⟨7, 6, 32, 3074⟩ : Room).cells (⟨7, 6, 32, 3074⟩ : Room).slots A = Q
  obtain ⟨hx, hb, hr, hts, hown, hlk, hml⟩ := C
  have hown : s.vm.findClass RX1 = some m.cls := hown
  have hS : va_S A s.heap s.heap [] := va_S.rf
  have hl : lv_has ls 3 [(0, .ref vh), (1, .int wa)] := hl
  have hmu := dm_mul hd
  refine lv_iload_n hx hb dX1_account_0 rfl (lv_at hl 1 rfl) ?_
  refine lv_iconst (v := nI 0) hx hb dX1_account_1 (by decide) ?_
  refine lv_bipush (v := nI 9) hx hb dX1_account_2 (by decide) ?_
  have hP : va_P G.1 CL (cat [VTW G vh ph th svh hs9 ah bh lh rh fa9 rf9 de9, PW G ph pd nr nc pL pG pB pk pa pt pm, SBB G bh bz, PAW G ah pz ks ss]) _ := hP
  have hD : va_D A (cat [VTW G vh ph th svh hs9 ah bh lh rh fa9 rf9 de9, PW G ph pd nr nc pL pG pB pk pa pt pm, SBB G bh bz, PAW G ah pz ks ss]) := hD
  obtain ⟨hP, hD⟩ := cut_B (bs' := [VTW G vh ph th svh hs9 ah bh lh rh fa9 rf9 de9, PW G ph pd nr nc pL pG pB pk pa pt pm, SBB G bh bz, PAW G ah pz ks ss]) hP hD [0, 1, 2, 3] (by decide) rfl
  have hP : va_P G.1 CL (([] : va_W) ++ (VTW G vh ph th svh hs9 ah bh lh rh fa9 rf9 de9 ++ PW G ph pd nr nc pL pG pB pk pa pt pm ++ SBB G bh bz ++ PAW G ah pz ks ss)) _ := hP
  have hD : va_D A (([] : va_W) ++ (VTW G vh ph th svh hs9 ah bh lh rh fa9 rf9 de9 ++ PW G ph pd nr nc pL pG pB pk pa pt pm ++ SBB G bh bz ++ PAW G ah pz ks ss)) := hD
  refine callSi (As := [.int wa, .int (nI 0), .int (nI 9)]) (rest := []) (wc := ([] : va_W)) (wr := (VTW G vh ph th svh hs9 ah bh lh rh fa9 rf9 de9 ++ PW G ph pd nr nc pL pG pB pk pa pt pm ++ SBB G bh bz ++ PAW G ah pz ks ss)) ⟨hx, hb, hml, hown, hts⟩ (m_X1_in l G wa (nI 0) (nI 9) ) (va_cwS 3 hts (lw_S q1113 q1114 q88 q1115) rfl rfl rfl (by decide +kernel) ⟨Nat.le_of_ble_eq_true rfl, Nat.le_of_ble_eq_true rfl⟩) hK hZ hA hP hD hS (ixC ([] : va_W)) (ixR ([] : va_W) (VTW G vh ph th svh hs9 ah bh lh rh fa9 rf9 de9 ++ PW G ph pd nr nc pL pG pB pk pa pt pm ++ SBB G bh bz ++ PAW G ah pz ks ss)) ixC_ok ixR_ok ixC_nd ixR_nd ix_dis rfl hl.1 (Nat.le_of_ble_eq_true rfl) ⟨Nat.le_of_ble_eq_true rfl, Nat.le_of_ble_eq_true rfl⟩ rfl dX1_account_4 (fun r9 u9 H locs hw9 hP hD hS => ?_)
  subst hw9
  rw [List.append_nil] at hP hD
  have hP : va_P G.1 CL (cat [VTW G vh ph th svh hs9 ah bh lh rh fa9 rf9 de9, PW G ph pd nr nc pL pG pB pk pa pt pm, SBB G bh bz, PAW G ah pz ks ss]) _ := hP
  have hD : va_D A (cat [VTW G vh ph th svh hs9 ah bh lh rh fa9 rf9 de9, PW G ph pd nr nc pL pG pB pk pa pt pm, SBB G bh bz, PAW G ah pz ks ss]) := hD
  obtain ⟨hP, hD⟩ := cut_B (bs' := [VTW G vh ph th svh hs9 ah bh lh rh fa9 rf9 de9, PW G ph pd nr nc pL pG pB pk pa pt pm, SBB G bh bz, PAW G ah pz ks ss]) hP hD [0, 1, 2, 3] (by decide) rfl
  have hP : va_P G.1 CL (VTW G vh ph th svh hs9 ah bh lh rh fa9 rf9 de9 ++ PW G ph pd nr nc pL pG pB pk pa pt pm ++ SBB G bh bz ++ PAW G ah pz ks ss) _ := hP
  have hD : va_D A (VTW G vh ph th svh hs9 ah bh lh rh fa9 rf9 de9 ++ PW G ph pd nr nc pL pG pB pk pa pt pm ++ SBB G bh bz ++ PAW G ah pz ks ss) := hD
  have hP : va_P G.1 CL (cat [VTW G vh ph th svh hs9 ah bh lh rh fa9 rf9 de9, PW G ph pd nr nc pL pG pB pk pa pt pm, SBB G bh bz, PAW G ah pz ks ss]) _ := hP
  have hD : va_D A (cat [VTW G vh ph th svh hs9 ah bh lh rh fa9 rf9 de9, PW G ph pd nr nc pL pG pB pk pa pt pm, SBB G bh bz, PAW G ah pz ks ss]) := hD
  obtain ⟨hP, hD⟩ := cut_B (bs' := [VTW G vh ph th svh hs9 ah bh lh rh fa9 rf9 de9, PW G ph pd nr nc pL pG pB pk pa pt pm, SBB G bh bz, PAW G ah pz ks ss]) hP hD [0, 1, 2, 3] (by decide) rfl
  have hP : va_P G.1 CL (([] : va_W) ++ (VTW G vh ph th svh hs9 ah bh lh rh fa9 rf9 de9 ++ PW G ph pd nr nc pL pG pB pk pa pt pm ++ SBB G bh bz ++ PAW G ah pz ks ss)) _ := hP
  have hD : va_D A (([] : va_W) ++ (VTW G vh ph th svh hs9 ah bh lh rh fa9 rf9 de9 ++ PW G ph pd nr nc pL pG pB pk pa pt pm ++ SBB G bh bz ++ PAW G ah pz ks ss)) := hD
  refine callXSv (As := [.int (bI (decide ((nI 0) ≤ wa ∧ wa ≤ (nI 9))))]) (rest := []) (wc := ([] : va_W)) (wr := (VTW G vh ph th svh hs9 ah bh lh rh fa9 rf9 de9 ++ PW G ph pd nr nc pL pG pB pk pa pt pm ++ SBB G bh bz ++ PAW G ah pz ks ss)) ⟨hx, hb, hml, hown, hts⟩ (m_X1_check l G (decide ((nI 0) ≤ wa ∧ wa ≤ (nI 9))) (by first | assumption | omega)) (va_cwS 1 hts (lw_S q1116 q1117 q88 q1118) rfl rfl rfl (by decide +kernel) ⟨Nat.le_of_ble_eq_true rfl, Nat.le_of_ble_eq_true rfl⟩) hK hZ hA hP hD hS (ixC ([] : va_W)) (ixR ([] : va_W) (VTW G vh ph th svh hs9 ah bh lh rh fa9 rf9 de9 ++ PW G ph pd nr nc pL pG pB pk pa pt pm ++ SBB G bh bz ++ PAW G ah pz ks ss)) ixC_ok ixR_ok ixC_nd ixR_nd ix_dis rfl hl.1 (Nat.le_of_ble_eq_true rfl) ⟨Nat.le_of_ble_eq_true rfl, Nat.le_of_ble_eq_true rfl⟩ rfl dX1_account_7 (fun ce9 q9 u9 H locs hw9 hP hD hS hce hcv hcl => ?_) (fun u9 H locs hw9 hP hD hS => ?_)
  · skip
    have hx7 : (decide ((nI 0) ≤ wa ∧ wa ≤ (nI 9))) = false := hw9
    rw [List.append_nil] at hP hD
    have hP : va_P G.1 CL (cat [VTW G vh ph th svh hs9 ah bh lh rh fa9 rf9 de9, PW G ph pd nr nc pL pG pB pk pa pt pm, SBB G bh bz, PAW G ah pz ks ss]) _ := hP
    have hD : va_D A (cat [VTW G vh ph th svh hs9 ah bh lh rh fa9 rf9 de9, PW G ph pd nr nc pL pG pB pk pa pt pm, SBB G bh bz, PAW G ah pz ks ss]) := hD
    obtain ⟨hP, hD⟩ := cut_B (bs' := [VTW G vh ph th svh hs9 ah bh lh rh fa9 rf9 de9, PW G ph pd nr nc pL pG pB pk pa pt pm, SBB G bh bz, PAW G ah pz ks ss]) hP hD [0, 1, 2, 3] (by decide) rfl
    have hP : va_P G.1 CL (VTW G vh ph th svh hs9 ah bh lh rh fa9 rf9 de9 ++ PW G ph pd nr nc pL pG pB pk pa pt pm ++ SBB G bh bz ++ PAW G ah pz ks ss) _ := hP
    have hD : va_D A (VTW G vh ph th svh hs9 ah bh lh rh fa9 rf9 de9 ++ PW G ph pd nr nc pL pG pB pk pa pt pm ++ SBB G bh bz ++ PAW G ah pz ks ss) := hD
    have hcl : s.vm.findClass RJ12 = some ce9.cls := hcl
    subst hQ
    refine vx_widen (k := 6) (n := 32) (Nat.le_of_ble_eq_true rfl) (Nat.le_of_ble_eq_true rfl) ?_
    exact out_x (by rw [hnt]; exact fun x9 hx9 => nomatch hx9) hlk () (ac1_f hx7) hP hD hS hce hcv hcl (Nat.le_refl _) (Nat.le_refl _)
  refine W.widen (k := 1) (n := 6) (Nat.le_refl _) (Nat.le_refl _) ?_
  have hw7 : (decide ((nI 0) ≤ wa ∧ wa ≤ (nI 9))) = true := hw9
  rw [List.append_nil] at hP hD
  have hP : va_P G.1 CL (cat [VTW G vh ph th svh hs9 ah bh lh rh fa9 rf9 de9, PW G ph pd nr nc pL pG pB pk pa pt pm, SBB G bh bz, PAW G ah pz ks ss]) _ := hP
  have hD : va_D A (cat [VTW G vh ph th svh hs9 ah bh lh rh fa9 rf9 de9, PW G ph pd nr nc pL pG pB pk pa pt pm, SBB G bh bz, PAW G ah pz ks ss]) := hD
  obtain ⟨hP, hD⟩ := cut_B (bs' := [VTW G vh ph th svh hs9 ah bh lh rh fa9 rf9 de9, PW G ph pd nr nc pL pG pB pk pa pt pm, SBB G bh bz, PAW G ah pz ks ss]) hP hD [0, 1, 2, 3] (by decide) rfl
  have hP : va_P G.1 CL (VTW G vh ph th svh hs9 ah bh lh rh fa9 rf9 de9 ++ PW G ph pd nr nc pL pG pB pk pa pt pm ++ SBB G bh bz ++ PAW G ah pz ks ss) _ := hP
  have hD : va_D A (VTW G vh ph th svh hs9 ah bh lh rh fa9 rf9 de9 ++ PW G ph pd nr nc pL pG pB pk pa pt pm ++ SBB G bh bz ++ PAW G ah pz ks ss) := hD
  refine lv_aload_n hx hb dX1_account_10 rfl (lv_at hl 0 rfl) ?_
  refine va_get (D := G.1) (ci := 0) (v := .ref ph) (C := RX1) (T := TX1) (N := 11) hx hb hts in_X1 hown hK hP 0 rfl rfl 0 (by decide) (hts _ q428) (fun _ h9 => h9) rfl dX1_account_11 ?_
  refine lv_astore_n (lv' := [(2, .ref ph), (0, .ref vh), (1, .int wa)]) hx hb dX1_account_14 rfl hl (by decide) rfl (fun ls hl => ?_)
  refine lv_iload_n hx hb dX1_account_15 rfl (lv_at hl 2 rfl) ?_
  by_cases k16_0 : wa = nI 0
  · skip
    refine lv_tableIn (off := 52) (tgt := 68) hx hb dX1_account_16 (by rw [k16_0]; decide) (by rw [k16_0]; decide) (by rw [k16_0]; decide) (by decide) ?_
    subst k16_0
    refine lv_aload_n hx hb dX1_account_68 rfl (lv_at hl 0 rfl) ?_
    have hP : va_P G.1 CL (cat [VTW G vh ph th svh hs9 ah bh lh rh fa9 rf9 de9, PW G ph pd nr nc pL pG pB pk pa pt pm, SBB G bh bz, PAW G ah pz ks ss]) _ := hP
    have hD : va_D A (cat [VTW G vh ph th svh hs9 ah bh lh rh fa9 rf9 de9, PW G ph pd nr nc pL pG pB pk pa pt pm, SBB G bh bz, PAW G ah pz ks ss]) := hD
    obtain ⟨hP, hD⟩ := cut_B (bs' := [PW G ph pd nr nc pL pG pB pk pa pt pm, VTW G vh ph th svh hs9 ah bh lh rh fa9 rf9 de9, SBB G bh bz, PAW G ah pz ks ss]) hP hD [1, 0, 2, 3] (by decide) rfl
    have hP : va_P G.1 CL ((PW G ph pd nr nc pL pG pB pk pa pt pm) ++ (VTW G vh ph th svh hs9 ah bh lh rh fa9 rf9 de9 ++ SBB G bh bz ++ PAW G ah pz ks ss)) _ := hP
    have hD : va_D A ((PW G ph pd nr nc pL pG pB pk pa pt pm) ++ (VTW G vh ph th svh hs9 ah bh lh rh fa9 rf9 de9 ++ SBB G bh bz ++ PAW G ah pz ks ss)) := hD
    refine callVi (As := []) (rest := []) (wc := (PW G ph pd nr nc pL pG pB pk pa pt pm)) (wr := (VTW G vh ph th svh hs9 ah bh lh rh fa9 rf9 de9 ++ SBB G bh bz ++ PAW G ah pz ks ss)) ⟨hx, hb, hml, hown, hts⟩ (m_X2_places l G ph pd nr nc pL pG pB pk pa pt pm ) (cwV 0 hts (lw_V q1093 q475 q476 q89 q477) rfl rfl rfl (by decide +kernel) ⟨Nat.le_of_ble_eq_true rfl, Nat.le_of_ble_eq_true rfl⟩) hK hZ hA hP hD hS (ixC (PW G ph pd nr nc pL pG pB pk pa pt pm)) (ixR (PW G ph pd nr nc pL pG pB pk pa pt pm) (VTW G vh ph th svh hs9 ah bh lh rh fa9 rf9 de9 ++ SBB G bh bz ++ PAW G ah pz ks ss)) ixC_ok ixR_ok ixC_nd ixR_nd ix_dis 0 1 rfl rfl rfl hl.1 (Nat.le_of_ble_eq_true rfl) ⟨Nat.le_of_ble_eq_true rfl, Nat.le_of_ble_eq_true rfl⟩ rfl dX1_account_69 (fun r9 u9 H locs hw9 hP hD hS => ?_)
    subst hw9
    have hP : va_P G.1 CL (cat [VTW G vh ph th svh hs9 ah bh lh rh fa9 rf9 de9, SBB G bh bz, PAW G ah pz ks ss, PW G ph pd nr nc pL pG pB pk pa pt pm]) _ := hP
    have hD : va_D A (cat [VTW G vh ph th svh hs9 ah bh lh rh fa9 rf9 de9, SBB G bh bz, PAW G ah pz ks ss, PW G ph pd nr nc pL pG pB pk pa pt pm]) := hD
    obtain ⟨hP, hD⟩ := cut_B (bs' := [VTW G vh ph th svh hs9 ah bh lh rh fa9 rf9 de9, PW G ph pd nr nc pL pG pB pk pa pt pm, SBB G bh bz, PAW G ah pz ks ss]) hP hD [0, 3, 1, 2] (by decide) rfl
    have hP : va_P G.1 CL (VTW G vh ph th svh hs9 ah bh lh rh fa9 rf9 de9 ++ PW G ph pd nr nc pL pG pB pk pa pt pm ++ SBB G bh bz ++ PAW G ah pz ks ss) _ := hP
    have hD : va_D A (VTW G vh ph th svh hs9 ah bh lh rh fa9 rf9 de9 ++ PW G ph pd nr nc pL pG pB pk pa pt pm ++ SBB G bh bz ++ PAW G ah pz ks ss) := hD
    subst hQ
    refine W.widen (k := 6) (n := 32) (Nat.le_of_ble_eq_true rfl) (Nat.le_of_ble_eq_true rfl) ?_
    refine vx_ret ?_
    exact ret_i hx hb hr hlk () ⟨rfl, (ac1_t hw7)⟩ hP hD hS rfl dX1_account_72
  · skip
    by_cases k16_1 : wa = nI 1
    · skip
      refine lv_tableIn (off := 57) (tgt := 73) hx hb dX1_account_16 (by rw [k16_1]; decide) (by rw [k16_1]; decide) (by rw [k16_1]; decide) (by decide) ?_
      subst k16_1
      refine lv_aload_n hx hb dX1_account_73 rfl (lv_at hl 1 rfl) ?_
      have hP : va_P G.1 CL (cat [VTW G vh ph th svh hs9 ah bh lh rh fa9 rf9 de9, PW G ph pd nr nc pL pG pB pk pa pt pm, SBB G bh bz, PAW G ah pz ks ss]) _ := hP
      have hD : va_D A (cat [VTW G vh ph th svh hs9 ah bh lh rh fa9 rf9 de9, PW G ph pd nr nc pL pG pB pk pa pt pm, SBB G bh bz, PAW G ah pz ks ss]) := hD
      obtain ⟨hP, hD⟩ := cut_B (bs' := [VTW G vh ph th svh hs9 ah bh lh rh fa9 rf9 de9, PW G ph pd nr nc pL pG pB pk pa pt pm, SBB G bh bz, PAW G ah pz ks ss]) hP hD [0, 1, 2, 3] (by decide) rfl
      have hP : va_P G.1 CL ((VTW G vh ph th svh hs9 ah bh lh rh fa9 rf9 de9 ++ PW G ph pd nr nc pL pG pB pk pa pt pm) ++ (SBB G bh bz ++ PAW G ah pz ks ss)) _ := hP
      have hD : va_D A ((VTW G vh ph th svh hs9 ah bh lh rh fa9 rf9 de9 ++ PW G ph pd nr nc pL pG pB pk pa pt pm) ++ (SBB G bh bz ++ PAW G ah pz ks ss)) := hD
      refine callVr (As := []) (rest := []) (wc := (VTW G vh ph th svh hs9 ah bh lh rh fa9 rf9 de9 ++ PW G ph pd nr nc pL pG pB pk pa pt pm)) (wr := (SBB G bh bz ++ PAW G ah pz ks ss)) ⟨hx, hb, hml, hown, hts⟩ (m_X1_allLines l G vh ph th svh hs9 ah bh lh rh fa9 rf9 de9 pd nr nc pL pG pB pk pa pt pm (by first | assumption | omega) (by first | assumption | omega)) (cwV 0 hts (lw_V q524 q526 qs6 q88 q527) rfl rfl rfl (by decide +kernel) ⟨Nat.le_of_ble_eq_true rfl, Nat.le_of_ble_eq_true rfl⟩) hK hZ hA hP hD hS (ixC (VTW G vh ph th svh hs9 ah bh lh rh fa9 rf9 de9 ++ PW G ph pd nr nc pL pG pB pk pa pt pm)) (ixR (VTW G vh ph th svh hs9 ah bh lh rh fa9 rf9 de9 ++ PW G ph pd nr nc pL pG pB pk pa pt pm) (SBB G bh bz ++ PAW G ah pz ks ss)) ixC_ok ixR_ok ixC_nd ixR_nd ix_dis 0 0 rfl rfl rfl hl.1 (Nat.le_of_ble_eq_true rfl) ⟨Nat.le_of_ble_eq_true rfl, Nat.le_of_ble_eq_true rfl⟩ rfl dX1_account_74 (fun r9 u9 H locs hw9 hP hD hS => ?_)
      refine W.widen (k := 4) (n := 27) (Nat.le_refl _) (Nat.le_refl _) ?_
      obtain ⟨dh2_5, z2_5⟩ := u9
      have hw74 : DQh z2_5 (bxs G (nr + nc)) := hw9
      obtain ⟨r_5, e8⟩ : ∃ z, z = r9 := ⟨_, rfl⟩
      subst e8
      have hP : va_P G.1 CL (cat [SBB G bh bz, PAW G ah pz ks ss, VTW G vh ph th svh hs9 ah bh lh rh fa9 rf9 de9, PW G ph pd nr nc pL pG pB pk pa pt pm, RWW G r_5 dh2_5, DQB G dh2_5 z2_5]) _ := hP
      have hD : va_D A (cat [SBB G bh bz, PAW G ah pz ks ss, VTW G vh ph th svh hs9 ah bh lh rh fa9 rf9 de9, PW G ph pd nr nc pL pG pB pk pa pt pm, RWW G r_5 dh2_5, DQB G dh2_5 z2_5]) := hD
      obtain ⟨hP, hD⟩ := cut_B (bs' := [VTW G vh ph th svh hs9 ah bh lh rh fa9 rf9 de9, PW G ph pd nr nc pL pG pB pk pa pt pm, SBB G bh bz, RWW G r_5 dh2_5, DQB G dh2_5 z2_5, PAW G ah pz ks ss]) hP hD [2, 3, 0, 4, 5, 1] (by decide) rfl
      have hP : va_P G.1 CL (VTW G vh ph th svh hs9 ah bh lh rh fa9 rf9 de9 ++ PW G ph pd nr nc pL pG pB pk pa pt pm ++ SBB G bh bz ++ RWW G r_5 dh2_5 ++ DQB G dh2_5 z2_5 ++ PAW G ah pz ks ss) _ := hP
      have hD : va_D A (VTW G vh ph th svh hs9 ah bh lh rh fa9 rf9 de9 ++ PW G ph pd nr nc pL pG pB pk pa pt pm ++ SBB G bh bz ++ RWW G r_5 dh2_5 ++ DQB G dh2_5 z2_5 ++ PAW G ah pz ks ss) := hD
      refine lv_aload_n hx hb dX1_account_77 rfl (lv_at hl 0 rfl) ?_
      obtain ⟨cK4, hcK4⟩ := hZ.lam (y := yX1_account) (pc := 78) (idx := 334) (σ := sh4) (by decide +kernel) (by decide)
      refine mk_lam ok4 rfl hcK4 rfl hx hb hnm hZ hP hD hS hA (by rw [hml]; exact hl.1) (Nat.le_of_ble_eq_true rfl) (Nat.le_of_ble_eq_true rfl) (Nat.le_of_ble_eq_true rfl) dX1_account_78 (fun q6 H hP hD hS => ?_)
      refine W.widen (k := 5) (n := 28) (Nat.le_refl _) (Nat.le_refl _) ?_
      have hP : va_P G.1 CL (VTW G vh ph th svh hs9 ah bh lh rh fa9 rf9 de9 ++ PW G ph pd nr nc pL pG pB pk pa pt pm ++ SBB G bh bz ++ RWW G r_5 dh2_5 ++ DQB G dh2_5 z2_5 ++ PAW G ah pz ks ss ++ LMW G q6 cK4 ph) _ := hP
      have hD : va_D A (VTW G vh ph th svh hs9 ah bh lh rh fa9 rf9 de9 ++ PW G ph pd nr nc pL pG pB pk pa pt pm ++ SBB G bh bz ++ RWW G r_5 dh2_5 ++ DQB G dh2_5 z2_5 ++ PAW G ah pz ks ss ++ LMW G q6 cK4 ph) := hD
      have hP : va_P G.1 CL (cat [VTW G vh ph th svh hs9 ah bh lh rh fa9 rf9 de9, PW G ph pd nr nc pL pG pB pk pa pt pm, SBB G bh bz, RWW G r_5 dh2_5, DQB G dh2_5 z2_5, PAW G ah pz ks ss, LMW G q6 cK4 ph]) _ := hP
      have hD : va_D A (cat [VTW G vh ph th svh hs9 ah bh lh rh fa9 rf9 de9, PW G ph pd nr nc pL pG pB pk pa pt pm, SBB G bh bz, RWW G r_5 dh2_5, DQB G dh2_5 z2_5, PAW G ah pz ks ss, LMW G q6 cK4 ph]) := hD
      obtain ⟨hP, hD⟩ := cut_B (bs' := [RWW G r_5 dh2_5, DQB G dh2_5 z2_5, LMW G q6 cK4 ph, PW G ph pd nr nc pL pG pB pk pa pt pm, VTW G vh ph th svh hs9 ah bh lh rh fa9 rf9 de9, SBB G bh bz, PAW G ah pz ks ss]) hP hD [3, 4, 6, 1, 0, 2, 5] (by decide) rfl
      have hP : va_P G.1 CL ((RWW G r_5 dh2_5 ++ DQB G dh2_5 z2_5 ++ LMW G q6 cK4 ph ++ PW G ph pd nr nc pL pG pB pk pa pt pm) ++ (VTW G vh ph th svh hs9 ah bh lh rh fa9 rf9 de9 ++ SBB G bh bz ++ PAW G ah pz ks ss)) _ := hP
      have hD : va_D A ((RWW G r_5 dh2_5 ++ DQB G dh2_5 z2_5 ++ LMW G q6 cK4 ph ++ PW G ph pd nr nc pL pG pB pk pa pt pm) ++ (VTW G vh ph th svh hs9 ah bh lh rh fa9 rf9 de9 ++ SBB G bh bz ++ PAW G ah pz ks ss)) := hD
      refine callVi (As := [.ref q6]) (rest := []) (wc := (RWW G r_5 dh2_5 ++ DQB G dh2_5 z2_5 ++ LMW G q6 cK4 ph ++ PW G ph pd nr nc pL pG pB pk pa pt pm)) (wr := (VTW G vh ph th svh hs9 ah bh lh rh fa9 rf9 de9 ++ SBB G bh bz ++ PAW G ah pz ks ss)) ⟨hx, hb, hml, hown, hts⟩ (m_X7_count__4 l G r_5 dh2_5 z2_5 q6 cK4 ph pd nr nc pL pG pB pk pa pt pm (by first | assumption | omega) hw74 (by first | assumption | omega) hcK4) (cwV 1 hts (lw_V q595 q596 q597 q112 q598) rfl rfl rfl (by decide +kernel) ⟨Nat.le_of_ble_eq_true rfl, Nat.le_of_ble_eq_true rfl⟩) hK hZ hA hP hD hS (ixC (RWW G r_5 dh2_5 ++ DQB G dh2_5 z2_5 ++ LMW G q6 cK4 ph ++ PW G ph pd nr nc pL pG pB pk pa pt pm)) (ixR (RWW G r_5 dh2_5 ++ DQB G dh2_5 z2_5 ++ LMW G q6 cK4 ph ++ PW G ph pd nr nc pL pG pB pk pa pt pm) (VTW G vh ph th svh hs9 ah bh lh rh fa9 rf9 de9 ++ SBB G bh bz ++ PAW G ah pz ks ss)) ixC_ok ixR_ok ixC_nd ixR_nd ix_dis 0 6 rfl rfl rfl hl.1 (Nat.le_of_ble_eq_true rfl) ⟨Nat.le_of_ble_eq_true rfl, Nat.le_of_ble_eq_true rfl⟩ rfl dX1_account_83 (fun r9 u9 H locs hw9 hP hD hS => ?_)
      refine W.widen (k := 6) (n := 32) (Nat.le_refl _) (Nat.le_refl _) ?_
      subst hw9
      have hP : va_P G.1 CL (cat [VTW G vh ph th svh hs9 ah bh lh rh fa9 rf9 de9, SBB G bh bz, PAW G ah pz ks ss, RWW G r_5 dh2_5, DQB G dh2_5 z2_5, LMW G q6 cK4 ph, PW G ph pd nr nc pL pG pB pk pa pt pm]) _ := hP
      have hD : va_D A (cat [VTW G vh ph th svh hs9 ah bh lh rh fa9 rf9 de9, SBB G bh bz, PAW G ah pz ks ss, RWW G r_5 dh2_5, DQB G dh2_5 z2_5, LMW G q6 cK4 ph, PW G ph pd nr nc pL pG pB pk pa pt pm]) := hD
      obtain ⟨hP, hD⟩ := cut_B (bs' := [VTW G vh ph th svh hs9 ah bh lh rh fa9 rf9 de9, PW G ph pd nr nc pL pG pB pk pa pt pm, SBB G bh bz, RWW G r_5 dh2_5, DQB G dh2_5 z2_5, LMW G q6 cK4 ph, PAW G ah pz ks ss]) hP hD [0, 6, 1, 3, 4, 5, 2] (by decide) rfl
      have hP : va_P G.1 CL (VTW G vh ph th svh hs9 ah bh lh rh fa9 rf9 de9 ++ PW G ph pd nr nc pL pG pB pk pa pt pm ++ SBB G bh bz ++ RWW G r_5 dh2_5 ++ DQB G dh2_5 z2_5 ++ LMW G q6 cK4 ph ++ PAW G ah pz ks ss) _ := hP
      have hD : va_D A (VTW G vh ph th svh hs9 ah bh lh rh fa9 rf9 de9 ++ PW G ph pd nr nc pL pG pB pk pa pt pm ++ SBB G bh bz ++ RWW G r_5 dh2_5 ++ DQB G dh2_5 z2_5 ++ LMW G q6 cK4 ph ++ PAW G ah pz ks ss) := hD
      have hP : va_P G.1 CL (cat [VTW G vh ph th svh hs9 ah bh lh rh fa9 rf9 de9, PW G ph pd nr nc pL pG pB pk pa pt pm, SBB G bh bz, RWW G r_5 dh2_5, DQB G dh2_5 z2_5, LMW G q6 cK4 ph, PAW G ah pz ks ss]) _ := hP
      have hD : va_D A (cat [VTW G vh ph th svh hs9 ah bh lh rh fa9 rf9 de9, PW G ph pd nr nc pL pG pB pk pa pt pm, SBB G bh bz, RWW G r_5 dh2_5, DQB G dh2_5 z2_5, LMW G q6 cK4 ph, PAW G ah pz ks ss]) := hD
      obtain ⟨hP, hD⟩ := cut_B (bs' := [VTW G vh ph th svh hs9 ah bh lh rh fa9 rf9 de9, PW G ph pd nr nc pL pG pB pk pa pt pm, SBB G bh bz, PAW G ah pz ks ss]) hP hD [0, 1, 2, 6] (by decide) rfl
      have hP : va_P G.1 CL (VTW G vh ph th svh hs9 ah bh lh rh fa9 rf9 de9 ++ PW G ph pd nr nc pL pG pB pk pa pt pm ++ SBB G bh bz ++ PAW G ah pz ks ss) _ := hP
      have hD : va_D A (VTW G vh ph th svh hs9 ah bh lh rh fa9 rf9 de9 ++ PW G ph pd nr nc pL pG pB pk pa pt pm ++ SBB G bh bz ++ PAW G ah pz ks ss) := hD
      subst hQ
      refine vx_ret ?_
      exact ret_i hx hb hr hlk () ⟨rfl, (ac1_t hw7)⟩ hP hD hS rfl dX1_account_86
    · skip
      by_cases k16_2 : wa = nI 2
      · skip
        refine lv_tableIn (off := 71) (tgt := 87) hx hb dX1_account_16 (by rw [k16_2]; decide) (by rw [k16_2]; decide) (by rw [k16_2]; decide) (by decide) ?_
        subst k16_2
        refine lv_aload_n hx hb dX1_account_87 rfl (lv_at hl 0 rfl) ?_
        refine va_getN (D := G.1) (ci := 1) (v := .int (pk 0)) (C := RX2) (T := TX2) (N := 14) hx hb hts in_X2 hown hK hP 1 rfl rfl 5 (by decide) (va_Nw.use rfl (KS.nw hZ q152 rfl)) (fun _ h9 => h9) rfl dX1_account_88 ?_
        subst hQ
        refine W.widen (k := 6) (n := 32) (Nat.le_of_ble_eq_true rfl) (Nat.le_of_ble_eq_true rfl) ?_
        refine vx_ret ?_
        exact ret_i hx hb hr hlk () ⟨rfl, (ac1_t hw7)⟩ hP hD hS rfl dX1_account_91
      · skip
        by_cases k16_3 : wa = nI 3
        · skip
          refine lv_tableIn (off := 76) (tgt := 92) hx hb dX1_account_16 (by rw [k16_3]; decide) (by rw [k16_3]; decide) (by rw [k16_3]; decide) (by decide) ?_
          subst k16_3
          refine lv_aload_n hx hb dX1_account_92 rfl (lv_at hl 0 rfl) ?_
          refine va_getN (D := G.1) (ci := 1) (v := .int (pk 1)) (C := RX2) (T := TX2) (N := 14) hx hb hts in_X2 hown hK hP 1 rfl rfl 6 (by decide) (va_Nw.use rfl (KS.nw hZ q154 rfl)) (fun _ h9 => h9) rfl dX1_account_93 ?_
          subst hQ
          refine W.widen (k := 6) (n := 32) (Nat.le_of_ble_eq_true rfl) (Nat.le_of_ble_eq_true rfl) ?_
          refine vx_ret ?_
          exact ret_i hx hb hr hlk () ⟨rfl, (ac1_t hw7)⟩ hP hD hS rfl dX1_account_96
        · skip
          by_cases k16_4 : wa = nI 4
          · skip
            refine lv_tableIn (off := 81) (tgt := 97) hx hb dX1_account_16 (by rw [k16_4]; decide) (by rw [k16_4]; decide) (by rw [k16_4]; decide) (by decide) ?_
            subst k16_4
            refine lv_aload_n hx hb dX1_account_97 rfl (lv_at hl 0 rfl) ?_
            refine va_getN (D := G.1) (ci := 1) (v := .int (pk 2)) (C := RX2) (T := TX2) (N := 14) hx hb hts in_X2 hown hK hP 1 rfl rfl 7 (by decide) (va_Nw.use rfl (KS.nw hZ q156 rfl)) (fun _ h9 => h9) rfl dX1_account_98 ?_
            subst hQ
            refine W.widen (k := 6) (n := 32) (Nat.le_of_ble_eq_true rfl) (Nat.le_of_ble_eq_true rfl) ?_
            refine vx_ret ?_
            exact ret_i hx hb hr hlk () ⟨rfl, (ac1_t hw7)⟩ hP hD hS rfl dX1_account_101
          · skip
            by_cases k16_5 : wa = nI 5
            · skip
              refine lv_tableIn (off := 86) (tgt := 102) hx hb dX1_account_16 (by rw [k16_5]; decide) (by rw [k16_5]; decide) (by rw [k16_5]; decide) (by decide) ?_
              subst k16_5
              refine lv_aload_n hx hb dX1_account_102 rfl (lv_at hl 0 rfl) ?_
              refine va_getN (D := G.1) (ci := 1) (v := .int (pk 3)) (C := RX2) (T := TX2) (N := 14) hx hb hts in_X2 hown hK hP 1 rfl rfl 8 (by decide) (va_Nw.use rfl (KS.nw hZ q158 rfl)) (fun _ h9 => h9) rfl dX1_account_103 ?_
              subst hQ
              refine W.widen (k := 6) (n := 32) (Nat.le_of_ble_eq_true rfl) (Nat.le_of_ble_eq_true rfl) ?_
              refine vx_ret ?_
              exact ret_i hx hb hr hlk () ⟨rfl, (ac1_t hw7)⟩ hP hD hS rfl dX1_account_106
            · skip
              by_cases k16_6 : wa = nI 6
              · skip
                refine lv_tableIn (off := 91) (tgt := 107) hx hb dX1_account_16 (by rw [k16_6]; decide) (by rw [k16_6]; decide) (by rw [k16_6]; decide) (by decide) ?_
                subst k16_6
                refine lv_aload_n hx hb dX1_account_107 rfl (lv_at hl 0 rfl) ?_
                refine va_getN (D := G.1) (ci := 1) (v := .int (pk 4)) (C := RX2) (T := TX2) (N := 14) hx hb hts in_X2 hown hK hP 1 rfl rfl 9 (by decide) (va_Nw.use rfl (KS.nw hZ q160 rfl)) (fun _ h9 => h9) rfl dX1_account_108 ?_
                subst hQ
                refine W.widen (k := 6) (n := 32) (Nat.le_of_ble_eq_true rfl) (Nat.le_of_ble_eq_true rfl) ?_
                refine vx_ret ?_
                exact ret_i hx hb hr hlk () ⟨rfl, (ac1_t hw7)⟩ hP hD hS rfl dX1_account_111
              · skip
                by_cases k16_7 : wa = nI 7
                · skip
                  refine lv_tableIn (off := 96) (tgt := 112) hx hb dX1_account_16 (by rw [k16_7]; decide) (by rw [k16_7]; decide) (by rw [k16_7]; decide) (by decide) ?_
                  subst k16_7
                  refine lv_aload_n hx hb dX1_account_112 rfl (lv_at hl 0 rfl) ?_
                  refine va_getN (D := G.1) (ci := 1) (v := .int (pk 5)) (C := RX2) (T := TX2) (N := 14) hx hb hts in_X2 hown hK hP 1 rfl rfl 10 (by decide) (va_Nw.use rfl (KS.nw hZ q162 rfl)) (fun _ h9 => h9) rfl dX1_account_113 ?_
                  subst hQ
                  refine W.widen (k := 6) (n := 32) (Nat.le_of_ble_eq_true rfl) (Nat.le_of_ble_eq_true rfl) ?_
                  refine vx_ret ?_
                  exact ret_i hx hb hr hlk () ⟨rfl, (ac1_t hw7)⟩ hP hD hS rfl dX1_account_116
                · skip
                  by_cases k16_8 : wa = nI 8
                  · skip
                    refine lv_tableIn (off := 101) (tgt := 117) hx hb dX1_account_16 (by rw [k16_8]; decide) (by rw [k16_8]; decide) (by rw [k16_8]; decide) (by decide) ?_
                    subst k16_8
                    refine lv_aload_n hx hb dX1_account_117 rfl (lv_at hl 1 rfl) ?_
                    refine va_get (D := G.1) (ci := 0) (v := .ref bh) (C := RX1) (T := TX1) (N := 11) hx hb hts in_X1 hown hK hP 0 rfl rfl 5 (by decide) (hts _ q433) (fun _ h9 => h9) rfl dX1_account_118 ?_
                    have hP : va_P G.1 CL (cat [VTW G vh ph th svh hs9 ah bh lh rh fa9 rf9 de9, PW G ph pd nr nc pL pG pB pk pa pt pm, SBB G bh bz, PAW G ah pz ks ss]) _ := hP
                    have hD : va_D A (cat [VTW G vh ph th svh hs9 ah bh lh rh fa9 rf9 de9, PW G ph pd nr nc pL pG pB pk pa pt pm, SBB G bh bz, PAW G ah pz ks ss]) := hD
                    obtain ⟨hP, hD⟩ := cut_B (bs' := [SBB G bh bz, VTW G vh ph th svh hs9 ah bh lh rh fa9 rf9 de9, PW G ph pd nr nc pL pG pB pk pa pt pm, PAW G ah pz ks ss]) hP hD [2, 0, 1, 3] (by decide) rfl
                    have hP : va_P G.1 CL ((SBB G bh bz) ++ (VTW G vh ph th svh hs9 ah bh lh rh fa9 rf9 de9 ++ PW G ph pd nr nc pL pG pB pk pa pt pm ++ PAW G ah pz ks ss)) _ := hP
                    have hD : va_D A ((SBB G bh bz) ++ (VTW G vh ph th svh hs9 ah bh lh rh fa9 rf9 de9 ++ PW G ph pd nr nc pL pG pB pk pa pt pm ++ PAW G ah pz ks ss)) := hD
                    refine callVi (As := []) (rest := []) (wc := (SBB G bh bz)) (wr := (VTW G vh ph th svh hs9 ah bh lh rh fa9 rf9 de9 ++ PW G ph pd nr nc pL pG pB pk pa pt pm ++ PAW G ah pz ks ss)) ⟨hx, hb, hml, hown, hts⟩ (m_J3_length l G bh bz bs9 hzb) (cwV 0 hts (lw_V q992 q857 q2190 q94 q858) rfl rfl rfl (by decide +kernel) ⟨Nat.le_of_ble_eq_true rfl, Nat.le_of_ble_eq_true rfl⟩) hK hZ hA hP hD hS (ixC (SBB G bh bz)) (ixR (SBB G bh bz) (VTW G vh ph th svh hs9 ah bh lh rh fa9 rf9 de9 ++ PW G ph pd nr nc pL pG pB pk pa pt pm ++ PAW G ah pz ks ss)) ixC_ok ixR_ok ixC_nd ixR_nd ix_dis 0 9 rfl rfl rfl hl.1 (Nat.le_of_ble_eq_true rfl) ⟨Nat.le_of_ble_eq_true rfl, Nat.le_of_ble_eq_true rfl⟩ rfl dX1_account_121 (fun r9 u9 H locs hw9 hP hD hS => ?_)
                    subst hw9
                    have hP : va_P G.1 CL (cat [VTW G vh ph th svh hs9 ah bh lh rh fa9 rf9 de9, PW G ph pd nr nc pL pG pB pk pa pt pm, PAW G ah pz ks ss, SBB G bh bz]) _ := hP
                    have hD : va_D A (cat [VTW G vh ph th svh hs9 ah bh lh rh fa9 rf9 de9, PW G ph pd nr nc pL pG pB pk pa pt pm, PAW G ah pz ks ss, SBB G bh bz]) := hD
                    obtain ⟨hP, hD⟩ := cut_B (bs' := [VTW G vh ph th svh hs9 ah bh lh rh fa9 rf9 de9, PW G ph pd nr nc pL pG pB pk pa pt pm, SBB G bh bz, PAW G ah pz ks ss]) hP hD [0, 1, 3, 2] (by decide) rfl
                    have hP : va_P G.1 CL (VTW G vh ph th svh hs9 ah bh lh rh fa9 rf9 de9 ++ PW G ph pd nr nc pL pG pB pk pa pt pm ++ SBB G bh bz ++ PAW G ah pz ks ss) _ := hP
                    have hD : va_D A (VTW G vh ph th svh hs9 ah bh lh rh fa9 rf9 de9 ++ PW G ph pd nr nc pL pG pB pk pa pt pm ++ SBB G bh bz ++ PAW G ah pz ks ss) := hD
                    subst hQ
                    refine W.widen (k := 6) (n := 32) (Nat.le_of_ble_eq_true rfl) (Nat.le_of_ble_eq_true rfl) ?_
                    refine vx_ret ?_
                    exact ret_i hx hb hr hlk () ⟨rfl, (ac1_t hw7)⟩ hP hD hS rfl dX1_account_124
                  · skip
                    refine lv_tableOut (tgt := 125) hx hb dX1_account_16 (by have := lv_neT k16_0 (show (nI 0 : Int32).toInt = 0 by decide); have := lv_neT k16_1 (show (nI 1 : Int32).toInt = 1 by decide); have := lv_neT k16_2 (show (nI 2 : Int32).toInt = 2 by decide); have := lv_neT k16_3 (show (nI 3 : Int32).toInt = 3 by decide); have := lv_neT k16_4 (show (nI 4 : Int32).toInt = 4 by decide); have := lv_neT k16_5 (show (nI 5 : Int32).toInt = 5 by decide); have := lv_neT k16_6 (show (nI 6 : Int32).toInt = 6 by decide); have := lv_neT k16_7 (show (nI 7 : Int32).toInt = 7 by decide); have := lv_neT k16_8 (show (nI 8 : Int32).toInt = 8 by decide); omega) (by decide) ?_
                    have hw6 := lastK (by decide) hw7 (below9 k16_0 k16_1 k16_2 k16_3 k16_4 k16_5 k16_6 k16_7 k16_8)
                    refine lv_aload_n hx hb dX1_account_125 rfl (lv_at hl 1 rfl) ?_
                    refine va_get (D := G.1) (ci := 0) (v := .ref ah) (C := RX1) (T := TX1) (N := 11) hx hb hts in_X1 hown hK hP 0 rfl rfl 4 (by decide) (hts _ q432) (fun _ h9 => h9) rfl dX1_account_126 ?_
                    have hP : va_P G.1 CL (cat [VTW G vh ph th svh hs9 ah bh lh rh fa9 rf9 de9, PW G ph pd nr nc pL pG pB pk pa pt pm, SBB G bh bz, PAW G ah pz ks ss]) _ := hP
                    have hD : va_D A (cat [VTW G vh ph th svh hs9 ah bh lh rh fa9 rf9 de9, PW G ph pd nr nc pL pG pB pk pa pt pm, SBB G bh bz, PAW G ah pz ks ss]) := hD
                    obtain ⟨hP, hD⟩ := cut_B (bs' := [PAW G ah pz ks ss, VTW G vh ph th svh hs9 ah bh lh rh fa9 rf9 de9, PW G ph pd nr nc pL pG pB pk pa pt pm, SBB G bh bz]) hP hD [3, 0, 1, 2] (by decide) rfl
                    have hP : va_P G.1 CL ((PAW G ah pz ks ss) ++ (VTW G vh ph th svh hs9 ah bh lh rh fa9 rf9 de9 ++ PW G ph pd nr nc pL pG pB pk pa pt pm ++ SBB G bh bz)) _ := hP
                    have hD : va_D A ((PAW G ah pz ks ss) ++ (VTW G vh ph th svh hs9 ah bh lh rh fa9 rf9 de9 ++ PW G ph pd nr nc pL pG pB pk pa pt pm ++ SBB G bh bz)) := hD
                    refine callVi (As := []) (rest := []) (wc := (PAW G ah pz ks ss)) (wr := (VTW G vh ph th svh hs9 ah bh lh rh fa9 rf9 de9 ++ PW G ph pd nr nc pL pG pB pk pa pt pm ++ SBB G bh bz)) ⟨hx, hb, hml, hown, hts⟩ (m_X3_size l G ah pz ks ss hz) (cwV 0 hts (lw_V q1644 q1645 q1646 q90 q1647) rfl rfl rfl (by decide +kernel) ⟨Nat.le_of_ble_eq_true rfl, Nat.le_of_ble_eq_true rfl⟩) hK hZ hA hP hD hS (ixC (PAW G ah pz ks ss)) (ixR (PAW G ah pz ks ss) (VTW G vh ph th svh hs9 ah bh lh rh fa9 rf9 de9 ++ PW G ph pd nr nc pL pG pB pk pa pt pm ++ SBB G bh bz)) ixC_ok ixR_ok ixC_nd ixR_nd ix_dis 0 2 rfl rfl rfl hl.1 (Nat.le_of_ble_eq_true rfl) ⟨Nat.le_of_ble_eq_true rfl, Nat.le_of_ble_eq_true rfl⟩ rfl dX1_account_129 (fun r9 u9 H locs hw9 hP hD hS => ?_)
                    subst hw9
                    have hP : va_P G.1 CL (cat [VTW G vh ph th svh hs9 ah bh lh rh fa9 rf9 de9, PW G ph pd nr nc pL pG pB pk pa pt pm, SBB G bh bz, PAW G ah pz ks ss]) _ := hP
                    have hD : va_D A (cat [VTW G vh ph th svh hs9 ah bh lh rh fa9 rf9 de9, PW G ph pd nr nc pL pG pB pk pa pt pm, SBB G bh bz, PAW G ah pz ks ss]) := hD
                    obtain ⟨hP, hD⟩ := cut_B (bs' := [VTW G vh ph th svh hs9 ah bh lh rh fa9 rf9 de9, PW G ph pd nr nc pL pG pB pk pa pt pm, SBB G bh bz, PAW G ah pz ks ss]) hP hD [0, 1, 2, 3] (by decide) rfl
                    have hP : va_P G.1 CL (VTW G vh ph th svh hs9 ah bh lh rh fa9 rf9 de9 ++ PW G ph pd nr nc pL pG pB pk pa pt pm ++ SBB G bh bz ++ PAW G ah pz ks ss) _ := hP
                    have hD : va_D A (VTW G vh ph th svh hs9 ah bh lh rh fa9 rf9 de9 ++ PW G ph pd nr nc pL pG pB pk pa pt pm ++ SBB G bh bz ++ PAW G ah pz ks ss) := hD
                    subst hQ
                    refine W.widen (k := 6) (n := 32) (Nat.le_of_ble_eq_true rfl) (Nat.le_of_ble_eq_true rfl) ?_
                    refine vx_ret ?_
                    exact ret_i hx hb hr hlk () ⟨(by rw [hw6]; rfl), (ac1_t hw7)⟩ hP hD hS rfl dX1_account_132
set_option maxHeartbeats 4000000 in
set_option maxRecDepth 100000 in
theorem m_X1_undo (l : Launch) (G : GG) (vh : Nat) (ph : Nat) (th : Nat) (svh : Nat) (hs9 : Bool) (ah : Nat) (bh : Nat) (lh : Nat) (rh : Nat) (fa9 : Int32) (rf9 : Int32) (de9 : Int32) (pd : Nat → Nat) (nr : Nat) (nc : Nat) (pL : Nat → Nat) (pG : Nat → Nat) (pB : Nat → Bool) (pk : Nat → Int32) (pa : Nat → Nat) (pt : Nat → Nat) (pm : Nat) (pz : PZA) (ks : List PS) (ss : List PS) (hz : PAh pz ks ss) (h8 : ks.length + ss.length = 8) (hst : l.stackTraces = false) : MX l G yX1_undo cX1_undo 1 (some .int) ⟨7, 1, 6, 101⟩ [.ref vh] (VTW G vh ph th svh hs9 ah bh lh rh fa9 rf9 de9 ++ PW G ph pd nr nc pL pG pB pk pa pt pm ++ PAW G ah pz ks ss) (Qi_ G (fun (r : Int32) (u : (PZA) × (List PS) × (List PS)) => (r = nI (ks.length - 1)) ∧ (0 < ks.length ∧ PAh u.1 u.2.1 u.2.2 ∧ u.2.1.length + u.2.2.length = 8 ∧ psz u.2.1 = (psz ks).dropLast)) (fun (u : (PZA) × (List PS) × (List PS)) => (VTW G vh ph th svh hs9 ah bh lh rh fa9 rf9 de9 ++ PW G ph pd (((psz ks).getLastD (nr, nc, pL, pG, pB, pk)).1) (((psz ks).getLastD (nr, nc, pL, pG, pB, pk)).2.1) (((psz ks).getLastD (nr, nc, pL, pG, pB, pk)).2.2.1) (((psz ks).getLastD (nr, nc, pL, pG, pB, pk)).2.2.2.1) (((psz ks).getLastD (nr, nc, pL, pG, pB, pk)).2.2.2.2.1) (((psz ks).getLastD (nr, nc, pL, pG, pB, pk)).2.2.2.2.2) pa pt pm ++ PAW G ah u.1 u.2.1 u.2.2))) (XQ G (fun (_ : Unit) => RJ9) (fun (_ : Unit) => ks.length = 0) (fun (q9 : Nat) (_ : Unit) => (VTW G vh ph th svh hs9 ah bh lh rh fa9 rf9 de9 ++ PW G ph pd nr nc pL pG pB pk pa pt pm ++ PAW G ah pz ks ss))) := by
  refine MX.of (by decide) (Nat.le_of_ble_eq_true rfl) ?_
  intro p e s m args below meth cd A C hini hA hK hZ hP hD hnt ls hl
  generalize hQ : vx_MQ below ((Qi_ G (fun (r : Int32) (u : (PZA) × (List PS) × (List PS)) => (r = nI (ks.length - 1)) ∧ (0 < ks.length ∧ PAh u.1 u.2.1 u.2.2 ∧ u.2.1.length + u.2.2.length = 8 ∧ psz u.2.1 = (psz ks).dropLast)) (fun (u : (PZA) × (List PS) × (List PS)) => (VTW G vh ph th svh hs9 ah bh lh rh fa9 rf9 de9 ++ PW G ph pd (((psz ks).getLastD (nr, nc, pL, pG, pB, pk)).1) (((psz ks).getLastD (nr, nc, pL, pG, pB, pk)).2.1) (((psz ks).getLastD (nr, nc, pL, pG, pB, pk)).2.2.1) (((psz ks).getLastD (nr, nc, pL, pG, pB, pk)).2.2.2.1) (((psz ks).getLastD (nr, nc, pL, pG, pB, pk)).2.2.2.2.1) (((psz ks).getLastD (nr, nc, pL, pG, pB, pk)).2.2.2.2.2) pa pt pm ++ PAW G ah u.1 u.2.1 u.2.2))) A) ((XQ G (fun (_ : Unit) => RJ9) (fun (_ : Unit) => ks.length = 0) (fun (q9 : Nat) (_ : Unit) => (VTW G vh ph th svh hs9 ah bh lh rh fa9 rf9 de9 ++ PW G ph pd nr nc pL pG pB pk pa pt pm ++ PAW G ah pz ks ss))) A) args s (⟨7, 1, 6, 101⟩ : Room).cells (⟨7, 1, 6, 101⟩ : Room).slots A = Q
  obtain ⟨hx, hb, hr, hts, hown, hlk, hml⟩ := C
  have hown : s.vm.findClass RX1 = some m.cls := hown
  have hS : va_S A s.heap s.heap [] := va_S.rf
  have hl : lv_has ls 1 [(0, .ref vh)] := hl
  refine lv_aload_n hx hb dX1_undo_0 rfl (lv_at hl 0 rfl) ?_
  refine va_get (D := G.1) (ci := 0) (v := .ref ah) (C := RX1) (T := TX1) (N := 11) hx hb hts in_X1 hown hK hP 0 rfl rfl 4 (by decide) (hts _ q432) (fun _ h9 => h9) rfl dX1_undo_1 ?_
  have hP : va_P G.1 CL (cat [VTW G vh ph th svh hs9 ah bh lh rh fa9 rf9 de9, PW G ph pd nr nc pL pG pB pk pa pt pm, PAW G ah pz ks ss]) _ := hP
  have hD : va_D A (cat [VTW G vh ph th svh hs9 ah bh lh rh fa9 rf9 de9, PW G ph pd nr nc pL pG pB pk pa pt pm, PAW G ah pz ks ss]) := hD
  obtain ⟨hP, hD⟩ := cut_B (bs' := [PAW G ah pz ks ss, VTW G vh ph th svh hs9 ah bh lh rh fa9 rf9 de9, PW G ph pd nr nc pL pG pB pk pa pt pm]) hP hD [2, 0, 1] (by decide) rfl
  have hP : va_P G.1 CL ((PAW G ah pz ks ss) ++ (VTW G vh ph th svh hs9 ah bh lh rh fa9 rf9 de9 ++ PW G ph pd nr nc pL pG pB pk pa pt pm)) _ := hP
  have hD : va_D A ((PAW G ah pz ks ss) ++ (VTW G vh ph th svh hs9 ah bh lh rh fa9 rf9 de9 ++ PW G ph pd nr nc pL pG pB pk pa pt pm)) := hD
  refine callVi (As := []) (rest := []) (wc := (PAW G ah pz ks ss)) (wr := (VTW G vh ph th svh hs9 ah bh lh rh fa9 rf9 de9 ++ PW G ph pd nr nc pL pG pB pk pa pt pm)) ⟨hx, hb, hml, hown, hts⟩ (m_X3_size l G ah pz ks ss hz) (cwV 0 hts (lw_V q1644 q1645 q1646 q90 q1647) rfl rfl rfl (by decide +kernel) ⟨Nat.le_of_ble_eq_true rfl, Nat.le_of_ble_eq_true rfl⟩) hK hZ hA hP hD hS (ixC (PAW G ah pz ks ss)) (ixR (PAW G ah pz ks ss) (VTW G vh ph th svh hs9 ah bh lh rh fa9 rf9 de9 ++ PW G ph pd nr nc pL pG pB pk pa pt pm)) ixC_ok ixR_ok ixC_nd ixR_nd ix_dis 0 2 rfl rfl rfl hl.1 (Nat.le_of_ble_eq_true rfl) ⟨Nat.le_of_ble_eq_true rfl, Nat.le_of_ble_eq_true rfl⟩ rfl dX1_undo_4 (fun r9 u9 H locs hw9 hP hD hS => ?_)
  subst hw9
  have hP : va_P G.1 CL (cat [VTW G vh ph th svh hs9 ah bh lh rh fa9 rf9 de9, PW G ph pd nr nc pL pG pB pk pa pt pm, PAW G ah pz ks ss]) _ := hP
  have hD : va_D A (cat [VTW G vh ph th svh hs9 ah bh lh rh fa9 rf9 de9, PW G ph pd nr nc pL pG pB pk pa pt pm, PAW G ah pz ks ss]) := hD
  obtain ⟨hP, hD⟩ := cut_B (bs' := [VTW G vh ph th svh hs9 ah bh lh rh fa9 rf9 de9, PW G ph pd nr nc pL pG pB pk pa pt pm, PAW G ah pz ks ss]) hP hD [0, 1, 2] (by decide) rfl
  have hP : va_P G.1 CL (VTW G vh ph th svh hs9 ah bh lh rh fa9 rf9 de9 ++ PW G ph pd nr nc pL pG pB pk pa pt pm ++ PAW G ah pz ks ss) _ := hP
  have hD : va_D A (VTW G vh ph th svh hs9 ah bh lh rh fa9 rf9 de9 ++ PW G ph pd nr nc pL pG pB pk pa pt pm ++ PAW G ah pz ks ss) := hD
  refine n_if_le (tgt := 14) hx hb dX1_undo_7 (by decide) (by omega) (fun c7 => ?_) (fun c7 => ?_)
  · skip
    refine lv_iconst (v := nI 0) hx hb dX1_undo_14 (by decide) ?_
    have hP : va_P G.1 CL (cat [VTW G vh ph th svh hs9 ah bh lh rh fa9 rf9 de9, PW G ph pd nr nc pL pG pB pk pa pt pm, PAW G ah pz ks ss]) _ := hP
    have hD : va_D A (cat [VTW G vh ph th svh hs9 ah bh lh rh fa9 rf9 de9, PW G ph pd nr nc pL pG pB pk pa pt pm, PAW G ah pz ks ss]) := hD
    obtain ⟨hP, hD⟩ := cut_B (bs' := [VTW G vh ph th svh hs9 ah bh lh rh fa9 rf9 de9, PW G ph pd nr nc pL pG pB pk pa pt pm, PAW G ah pz ks ss]) hP hD [0, 1, 2] (by decide) rfl
    have hP : va_P G.1 CL (([] : va_W) ++ (VTW G vh ph th svh hs9 ah bh lh rh fa9 rf9 de9 ++ PW G ph pd nr nc pL pG pB pk pa pt pm ++ PAW G ah pz ks ss)) _ := hP
    have hD : va_D A (([] : va_W) ++ (VTW G vh ph th svh hs9 ah bh lh rh fa9 rf9 de9 ++ PW G ph pd nr nc pL pG pB pk pa pt pm ++ PAW G ah pz ks ss)) := hD
    refine callXSv (As := [.int (nI 0)]) (rest := []) (wc := ([] : va_W)) (wr := (VTW G vh ph th svh hs9 ah bh lh rh fa9 rf9 de9 ++ PW G ph pd nr nc pL pG pB pk pa pt pm ++ PAW G ah pz ks ss)) ⟨hx, hb, hml, hown, hts⟩ (m_X1_checkState l G false (by first | assumption | omega)) (va_cwS 1 hts (lw_S q1533 q1534 q88 q1535) rfl rfl rfl (by decide +kernel) ⟨Nat.le_of_ble_eq_true rfl, Nat.le_of_ble_eq_true rfl⟩) hK hZ hA hP hD hS (ixC ([] : va_W)) (ixR ([] : va_W) (VTW G vh ph th svh hs9 ah bh lh rh fa9 rf9 de9 ++ PW G ph pd nr nc pL pG pB pk pa pt pm ++ PAW G ah pz ks ss)) ixC_ok ixR_ok ixC_nd ixR_nd ix_dis rfl hl.1 (Nat.le_of_ble_eq_true rfl) ⟨Nat.le_of_ble_eq_true rfl, Nat.le_of_ble_eq_true rfl⟩ rfl dX1_undo_15 (fun ce9 q9 u9 H locs hw9 hP hD hS hce hcv hcl => ?_) (fun u9 H locs hw9 hP hD hS => ?_)
    · skip
      have hx15 : false = false := hw9
      rw [List.append_nil] at hP hD
      have hP : va_P G.1 CL (cat [VTW G vh ph th svh hs9 ah bh lh rh fa9 rf9 de9, PW G ph pd nr nc pL pG pB pk pa pt pm, PAW G ah pz ks ss]) _ := hP
      have hD : va_D A (cat [VTW G vh ph th svh hs9 ah bh lh rh fa9 rf9 de9, PW G ph pd nr nc pL pG pB pk pa pt pm, PAW G ah pz ks ss]) := hD
      obtain ⟨hP, hD⟩ := cut_B (bs' := [VTW G vh ph th svh hs9 ah bh lh rh fa9 rf9 de9, PW G ph pd nr nc pL pG pB pk pa pt pm, PAW G ah pz ks ss]) hP hD [0, 1, 2] (by decide) rfl
      have hP : va_P G.1 CL (VTW G vh ph th svh hs9 ah bh lh rh fa9 rf9 de9 ++ PW G ph pd nr nc pL pG pB pk pa pt pm ++ PAW G ah pz ks ss) _ := hP
      have hD : va_D A (VTW G vh ph th svh hs9 ah bh lh rh fa9 rf9 de9 ++ PW G ph pd nr nc pL pG pB pk pa pt pm ++ PAW G ah pz ks ss) := hD
      have hcl : s.vm.findClass RJ9 = some ce9.cls := hcl
      subst hQ
      refine vx_widen (k := 1) (n := 6) (Nat.le_of_ble_eq_true rfl) (Nat.le_of_ble_eq_true rfl) ?_
      exact out_x (by rw [hnt]; exact fun x9 hx9 => nomatch hx9) hlk () (by omega) hP hD hS hce hcv hcl (Nat.le_refl _) (Nat.le_refl _)
    refine W.widen (k := 1) (n := 6) (Nat.le_refl _) (Nat.le_refl _) ?_
    have hw15 : false = true := hw9
    rw [List.append_nil] at hP hD
    have hP : va_P G.1 CL (cat [VTW G vh ph th svh hs9 ah bh lh rh fa9 rf9 de9, PW G ph pd nr nc pL pG pB pk pa pt pm, PAW G ah pz ks ss]) _ := hP
    have hD : va_D A (cat [VTW G vh ph th svh hs9 ah bh lh rh fa9 rf9 de9, PW G ph pd nr nc pL pG pB pk pa pt pm, PAW G ah pz ks ss]) := hD
    obtain ⟨hP, hD⟩ := cut_B (bs' := [VTW G vh ph th svh hs9 ah bh lh rh fa9 rf9 de9, PW G ph pd nr nc pL pG pB pk pa pt pm, PAW G ah pz ks ss]) hP hD [0, 1, 2] (by decide) rfl
    have hP : va_P G.1 CL (VTW G vh ph th svh hs9 ah bh lh rh fa9 rf9 de9 ++ PW G ph pd nr nc pL pG pB pk pa pt pm ++ PAW G ah pz ks ss) _ := hP
    have hD : va_D A (VTW G vh ph th svh hs9 ah bh lh rh fa9 rf9 de9 ++ PW G ph pd nr nc pL pG pB pk pa pt pm ++ PAW G ah pz ks ss) := hD
    exact absurd hw15 (by decide)
  · skip
    refine lv_iconst (v := nI 1) hx hb dX1_undo_10 (by decide) ?_
    refine lv_goto (tgt := 15) hx hb dX1_undo_11 (by decide) ?_
    have hP : va_P G.1 CL (cat [VTW G vh ph th svh hs9 ah bh lh rh fa9 rf9 de9, PW G ph pd nr nc pL pG pB pk pa pt pm, PAW G ah pz ks ss]) _ := hP
    have hD : va_D A (cat [VTW G vh ph th svh hs9 ah bh lh rh fa9 rf9 de9, PW G ph pd nr nc pL pG pB pk pa pt pm, PAW G ah pz ks ss]) := hD
    obtain ⟨hP, hD⟩ := cut_B (bs' := [VTW G vh ph th svh hs9 ah bh lh rh fa9 rf9 de9, PW G ph pd nr nc pL pG pB pk pa pt pm, PAW G ah pz ks ss]) hP hD [0, 1, 2] (by decide) rfl
    have hP : va_P G.1 CL (([] : va_W) ++ (VTW G vh ph th svh hs9 ah bh lh rh fa9 rf9 de9 ++ PW G ph pd nr nc pL pG pB pk pa pt pm ++ PAW G ah pz ks ss)) _ := hP
    have hD : va_D A (([] : va_W) ++ (VTW G vh ph th svh hs9 ah bh lh rh fa9 rf9 de9 ++ PW G ph pd nr nc pL pG pB pk pa pt pm ++ PAW G ah pz ks ss)) := hD
    refine callXSv (As := [.int (nI 1)]) (rest := []) (wc := ([] : va_W)) (wr := (VTW G vh ph th svh hs9 ah bh lh rh fa9 rf9 de9 ++ PW G ph pd nr nc pL pG pB pk pa pt pm ++ PAW G ah pz ks ss)) ⟨hx, hb, hml, hown, hts⟩ (m_X1_checkState l G true (by first | assumption | omega)) (va_cwS 1 hts (lw_S q1533 q1534 q88 q1535) rfl rfl rfl (by decide +kernel) ⟨Nat.le_of_ble_eq_true rfl, Nat.le_of_ble_eq_true rfl⟩) hK hZ hA hP hD hS (ixC ([] : va_W)) (ixR ([] : va_W) (VTW G vh ph th svh hs9 ah bh lh rh fa9 rf9 de9 ++ PW G ph pd nr nc pL pG pB pk pa pt pm ++ PAW G ah pz ks ss)) ixC_ok ixR_ok ixC_nd ixR_nd ix_dis rfl hl.1 (Nat.le_of_ble_eq_true rfl) ⟨Nat.le_of_ble_eq_true rfl, Nat.le_of_ble_eq_true rfl⟩ rfl dX1_undo_15 (fun ce9 q9 u9 H locs hw9 hP hD hS hce hcv hcl => ?_) (fun u9 H locs hw9 hP hD hS => ?_)
    · skip
      have hx15 : true = false := hw9
      rw [List.append_nil] at hP hD
      have hP : va_P G.1 CL (cat [VTW G vh ph th svh hs9 ah bh lh rh fa9 rf9 de9, PW G ph pd nr nc pL pG pB pk pa pt pm, PAW G ah pz ks ss]) _ := hP
      have hD : va_D A (cat [VTW G vh ph th svh hs9 ah bh lh rh fa9 rf9 de9, PW G ph pd nr nc pL pG pB pk pa pt pm, PAW G ah pz ks ss]) := hD
      obtain ⟨hP, hD⟩ := cut_B (bs' := [VTW G vh ph th svh hs9 ah bh lh rh fa9 rf9 de9, PW G ph pd nr nc pL pG pB pk pa pt pm, PAW G ah pz ks ss]) hP hD [0, 1, 2] (by decide) rfl
      have hP : va_P G.1 CL (VTW G vh ph th svh hs9 ah bh lh rh fa9 rf9 de9 ++ PW G ph pd nr nc pL pG pB pk pa pt pm ++ PAW G ah pz ks ss) _ := hP
      have hD : va_D A (VTW G vh ph th svh hs9 ah bh lh rh fa9 rf9 de9 ++ PW G ph pd nr nc pL pG pB pk pa pt pm ++ PAW G ah pz ks ss) := hD
      exact absurd hx15 (by decide)
    refine W.widen (k := 1) (n := 6) (Nat.le_refl _) (Nat.le_refl _) ?_
    have hw15 : true = true := hw9
    rw [List.append_nil] at hP hD
    have hP : va_P G.1 CL (cat [VTW G vh ph th svh hs9 ah bh lh rh fa9 rf9 de9, PW G ph pd nr nc pL pG pB pk pa pt pm, PAW G ah pz ks ss]) _ := hP
    have hD : va_D A (cat [VTW G vh ph th svh hs9 ah bh lh rh fa9 rf9 de9, PW G ph pd nr nc pL pG pB pk pa pt pm, PAW G ah pz ks ss]) := hD
    obtain ⟨hP, hD⟩ := cut_B (bs' := [VTW G vh ph th svh hs9 ah bh lh rh fa9 rf9 de9, PW G ph pd nr nc pL pG pB pk pa pt pm, PAW G ah pz ks ss]) hP hD [0, 1, 2] (by decide) rfl
    have hP : va_P G.1 CL (VTW G vh ph th svh hs9 ah bh lh rh fa9 rf9 de9 ++ PW G ph pd nr nc pL pG pB pk pa pt pm ++ PAW G ah pz ks ss) _ := hP
    have hD : va_D A (VTW G vh ph th svh hs9 ah bh lh rh fa9 rf9 de9 ++ PW G ph pd nr nc pL pG pB pk pa pt pm ++ PAW G ah pz ks ss) := hD
    obtain ⟨k8, uu, rfl⟩ : ∃ k8 uu, ks = k8 ++ [uu] := (by rcases List.eq_nil_or_concat ks with h | ⟨a, b, h⟩ <;> first | exact ⟨a, b, h⟩ | exact ⟨a, b, by simpa using h⟩ | (subst h; exact absurd c7 (by decide)))
    have hP : va_P G.1 CL (VTW G vh ph th svh hs9 ah bh lh rh fa9 rf9 de9 ++ PW G ph pd nr nc pL pG pB pk pa pt pm ++ PAW G ah pz (k8 ++ [uu]) ss) _ := hP
    have hD : va_D A (VTW G vh ph th svh hs9 ah bh lh rh fa9 rf9 de9 ++ PW G ph pd nr nc pL pG pB pk pa pt pm ++ PAW G ah pz (k8 ++ [uu]) ss) := hD
    refine lv_aload_n hx hb dX1_undo_18 rfl (lv_at hl 0 rfl) ?_
    refine va_get (D := G.1) (ci := 0) (v := .ref ah) (C := RX1) (T := TX1) (N := 11) hx hb hts in_X1 hown hK hP 0 rfl rfl 4 (by decide) (hts _ q432) (fun _ h9 => h9) rfl dX1_undo_19 ?_
    refine lv_aload_n hx hb dX1_undo_22 rfl (lv_at hl 0 rfl) ?_
    refine va_get (D := G.1) (ci := 0) (v := .ref ph) (C := RX1) (T := TX1) (N := 11) hx hb hts in_X1 hown hK hP 0 rfl rfl 0 (by decide) (hts _ q428) (fun _ h9 => h9) rfl dX1_undo_23 ?_
    have hP : va_P G.1 CL (cat [VTW G vh ph th svh hs9 ah bh lh rh fa9 rf9 de9, PW G ph pd nr nc pL pG pB pk pa pt pm, PAW G ah pz (k8 ++ [uu]) ss]) _ := hP
    have hD : va_D A (cat [VTW G vh ph th svh hs9 ah bh lh rh fa9 rf9 de9, PW G ph pd nr nc pL pG pB pk pa pt pm, PAW G ah pz (k8 ++ [uu]) ss]) := hD
    obtain ⟨hP, hD⟩ := cut_B (bs' := [PW G ph pd nr nc pL pG pB pk pa pt pm, PAW G ah pz (k8 ++ [uu]) ss, VTW G vh ph th svh hs9 ah bh lh rh fa9 rf9 de9]) hP hD [1, 2, 0] (by decide) rfl
    have hP : va_P G.1 CL ((PW G ph pd nr nc pL pG pB pk pa pt pm ++ PAW G ah pz (k8 ++ [uu]) ss) ++ (VTW G vh ph th svh hs9 ah bh lh rh fa9 rf9 de9)) _ := hP
    have hD : va_D A ((PW G ph pd nr nc pL pG pB pk pa pt pm ++ PAW G ah pz (k8 ++ [uu]) ss) ++ (VTW G vh ph th svh hs9 ah bh lh rh fa9 rf9 de9)) := hD
    refine callVv (As := [.ref ph]) (rest := []) (wc := (PW G ph pd nr nc pL pG pB pk pa pt pm ++ PAW G ah pz (k8 ++ [uu]) ss)) (wr := (VTW G vh ph th svh hs9 ah bh lh rh fa9 rf9 de9)) ⟨hx, hb, hml, hown, hts⟩ (m_X3_givesBack l G ph pd nr nc pL pG pB pk pa pt pm ah pz ss k8 uu (by first | assumption | omega) (by omega)) (cwV 1 hts (lw_V q1695 q1696 q1697 q90 q1698) rfl rfl rfl (by decide +kernel) ⟨Nat.le_of_ble_eq_true rfl, Nat.le_of_ble_eq_true rfl⟩) hK hZ hA hP hD hS (ixC (PW G ph pd nr nc pL pG pB pk pa pt pm ++ PAW G ah pz (k8 ++ [uu]) ss)) (ixR (PW G ph pd nr nc pL pG pB pk pa pt pm ++ PAW G ah pz (k8 ++ [uu]) ss) (VTW G vh ph th svh hs9 ah bh lh rh fa9 rf9 de9)) ixC_ok ixR_ok ixC_nd ixR_nd ix_dis 6 2 rfl rfl rfl hl.1 (Nat.le_of_ble_eq_true rfl) ⟨Nat.le_of_ble_eq_true rfl, Nat.le_of_ble_eq_true rfl⟩ rfl dX1_undo_26 (fun u9 H locs hw9 hP hD hS => ?_)
    obtain ⟨pz2_6, ks2_6, ss2_6⟩ := u9
    have hw26 : PAh pz2_6 ks2_6 ss2_6 ∧ ks2_6 = k8 ∧ ss2_6 = ss ++ [uu] := hw9
    have hP : va_P G.1 CL (cat [VTW G vh ph th svh hs9 ah bh lh rh fa9 rf9 de9, PW G ph pd uu.2.2.1 uu.2.2.2.1 uu.2.2.2.2.1 uu.2.2.2.2.2.1 uu.2.2.2.2.2.2.1 uu.2.2.2.2.2.2.2.1 pa pt pm, PAW G ah pz2_6 ks2_6 ss2_6]) _ := hP
    have hD : va_D A (cat [VTW G vh ph th svh hs9 ah bh lh rh fa9 rf9 de9, PW G ph pd uu.2.2.1 uu.2.2.2.1 uu.2.2.2.2.1 uu.2.2.2.2.2.1 uu.2.2.2.2.2.2.1 uu.2.2.2.2.2.2.2.1 pa pt pm, PAW G ah pz2_6 ks2_6 ss2_6]) := hD
    obtain ⟨hP, hD⟩ := cut_B (bs' := [VTW G vh ph th svh hs9 ah bh lh rh fa9 rf9 de9, PW G ph pd uu.2.2.1 uu.2.2.2.1 uu.2.2.2.2.1 uu.2.2.2.2.2.1 uu.2.2.2.2.2.2.1 uu.2.2.2.2.2.2.2.1 pa pt pm, PAW G ah pz2_6 ks2_6 ss2_6]) hP hD [0, 1, 2] (by decide) rfl
    have hP : va_P G.1 CL (VTW G vh ph th svh hs9 ah bh lh rh fa9 rf9 de9 ++ PW G ph pd uu.2.2.1 uu.2.2.2.1 uu.2.2.2.2.1 uu.2.2.2.2.2.1 uu.2.2.2.2.2.2.1 uu.2.2.2.2.2.2.2.1 pa pt pm ++ PAW G ah pz2_6 ks2_6 ss2_6) _ := hP
    have hD : va_D A (VTW G vh ph th svh hs9 ah bh lh rh fa9 rf9 de9 ++ PW G ph pd uu.2.2.1 uu.2.2.2.1 uu.2.2.2.2.1 uu.2.2.2.2.2.1 uu.2.2.2.2.2.2.1 uu.2.2.2.2.2.2.2.1 pa pt pm ++ PAW G ah pz2_6 ks2_6 ss2_6) := hD
    refine lv_aload_n hx hb dX1_undo_29 rfl (lv_at hl 0 rfl) ?_
    refine va_get (D := G.1) (ci := 0) (v := .ref ah) (C := RX1) (T := TX1) (N := 11) hx hb hts in_X1 hown hK hP 0 rfl rfl 4 (by decide) (hts _ q432) (fun _ h9 => h9) rfl dX1_undo_30 ?_
    have hP : va_P G.1 CL (cat [VTW G vh ph th svh hs9 ah bh lh rh fa9 rf9 de9, PW G ph pd uu.2.2.1 uu.2.2.2.1 uu.2.2.2.2.1 uu.2.2.2.2.2.1 uu.2.2.2.2.2.2.1 uu.2.2.2.2.2.2.2.1 pa pt pm, PAW G ah pz2_6 ks2_6 ss2_6]) _ := hP
    have hD : va_D A (cat [VTW G vh ph th svh hs9 ah bh lh rh fa9 rf9 de9, PW G ph pd uu.2.2.1 uu.2.2.2.1 uu.2.2.2.2.1 uu.2.2.2.2.2.1 uu.2.2.2.2.2.2.1 uu.2.2.2.2.2.2.2.1 pa pt pm, PAW G ah pz2_6 ks2_6 ss2_6]) := hD
    obtain ⟨hP, hD⟩ := cut_B (bs' := [PAW G ah pz2_6 ks2_6 ss2_6, VTW G vh ph th svh hs9 ah bh lh rh fa9 rf9 de9, PW G ph pd uu.2.2.1 uu.2.2.2.1 uu.2.2.2.2.1 uu.2.2.2.2.2.1 uu.2.2.2.2.2.2.1 uu.2.2.2.2.2.2.2.1 pa pt pm]) hP hD [2, 0, 1] (by decide) rfl
    have hP : va_P G.1 CL ((PAW G ah pz2_6 ks2_6 ss2_6) ++ (VTW G vh ph th svh hs9 ah bh lh rh fa9 rf9 de9 ++ PW G ph pd uu.2.2.1 uu.2.2.2.1 uu.2.2.2.2.1 uu.2.2.2.2.2.1 uu.2.2.2.2.2.2.1 uu.2.2.2.2.2.2.2.1 pa pt pm)) _ := hP
    have hD : va_D A ((PAW G ah pz2_6 ks2_6 ss2_6) ++ (VTW G vh ph th svh hs9 ah bh lh rh fa9 rf9 de9 ++ PW G ph pd uu.2.2.1 uu.2.2.2.1 uu.2.2.2.2.1 uu.2.2.2.2.2.1 uu.2.2.2.2.2.2.1 uu.2.2.2.2.2.2.2.1 pa pt pm)) := hD
    refine callVi (As := []) (rest := []) (wc := (PAW G ah pz2_6 ks2_6 ss2_6)) (wr := (VTW G vh ph th svh hs9 ah bh lh rh fa9 rf9 de9 ++ PW G ph pd uu.2.2.1 uu.2.2.2.1 uu.2.2.2.2.1 uu.2.2.2.2.2.1 uu.2.2.2.2.2.2.1 uu.2.2.2.2.2.2.2.1 pa pt pm)) ⟨hx, hb, hml, hown, hts⟩ (m_X3_size l G ah pz2_6 ks2_6 ss2_6 hw26.1) (cwV 0 hts (lw_V q1644 q1645 q1646 q90 q1647) rfl rfl rfl (by decide +kernel) ⟨Nat.le_of_ble_eq_true rfl, Nat.le_of_ble_eq_true rfl⟩) hK hZ hA hP hD hS (ixC (PAW G ah pz2_6 ks2_6 ss2_6)) (ixR (PAW G ah pz2_6 ks2_6 ss2_6) (VTW G vh ph th svh hs9 ah bh lh rh fa9 rf9 de9 ++ PW G ph pd uu.2.2.1 uu.2.2.2.1 uu.2.2.2.2.1 uu.2.2.2.2.2.1 uu.2.2.2.2.2.2.1 uu.2.2.2.2.2.2.2.1 pa pt pm)) ixC_ok ixR_ok ixC_nd ixR_nd ix_dis 0 2 rfl rfl rfl hl.1 (Nat.le_of_ble_eq_true rfl) ⟨Nat.le_of_ble_eq_true rfl, Nat.le_of_ble_eq_true rfl⟩ rfl dX1_undo_33 (fun r9 u9 H locs hw9 hP hD hS => ?_)
    subst hw9
    have hP : va_P G.1 CL (cat [VTW G vh ph th svh hs9 ah bh lh rh fa9 rf9 de9, PW G ph pd uu.2.2.1 uu.2.2.2.1 uu.2.2.2.2.1 uu.2.2.2.2.2.1 uu.2.2.2.2.2.2.1 uu.2.2.2.2.2.2.2.1 pa pt pm, PAW G ah pz2_6 ks2_6 ss2_6]) _ := hP
    have hD : va_D A (cat [VTW G vh ph th svh hs9 ah bh lh rh fa9 rf9 de9, PW G ph pd uu.2.2.1 uu.2.2.2.1 uu.2.2.2.2.1 uu.2.2.2.2.2.1 uu.2.2.2.2.2.2.1 uu.2.2.2.2.2.2.2.1 pa pt pm, PAW G ah pz2_6 ks2_6 ss2_6]) := hD
    obtain ⟨hP, hD⟩ := cut_B (bs' := [VTW G vh ph th svh hs9 ah bh lh rh fa9 rf9 de9, PW G ph pd uu.2.2.1 uu.2.2.2.1 uu.2.2.2.2.1 uu.2.2.2.2.2.1 uu.2.2.2.2.2.2.1 uu.2.2.2.2.2.2.2.1 pa pt pm, PAW G ah pz2_6 ks2_6 ss2_6]) hP hD [0, 1, 2] (by decide) rfl
    have hP : va_P G.1 CL (VTW G vh ph th svh hs9 ah bh lh rh fa9 rf9 de9 ++ PW G ph pd uu.2.2.1 uu.2.2.2.1 uu.2.2.2.2.1 uu.2.2.2.2.2.1 uu.2.2.2.2.2.2.1 uu.2.2.2.2.2.2.2.1 pa pt pm ++ PAW G ah pz2_6 ks2_6 ss2_6) _ := hP
    have hD : va_D A (VTW G vh ph th svh hs9 ah bh lh rh fa9 rf9 de9 ++ PW G ph pd uu.2.2.1 uu.2.2.2.1 uu.2.2.2.2.1 uu.2.2.2.2.2.1 uu.2.2.2.2.2.2.1 uu.2.2.2.2.2.2.2.1 pa pt pm ++ PAW G ah pz2_6 ks2_6 ss2_6) := hD
    have e_nr : uu.2.2.1 = ((psz (k8 ++ [uu])).getLastD (nr, nc, pL, pG, pB, pk)).1 := (by rw [psz_snoc]; simp)
    rw [e_nr] at hP hD
    have e_nc : uu.2.2.2.1 = ((psz (k8 ++ [uu])).getLastD (nr, nc, pL, pG, pB, pk)).2.1 := (by rw [psz_snoc]; simp)
    rw [e_nc] at hP hD
    have e_L : uu.2.2.2.2.1 = ((psz (k8 ++ [uu])).getLastD (nr, nc, pL, pG, pB, pk)).2.2.1 := (by rw [psz_snoc]; simp)
    rw [e_L] at hP hD
    have e_K : uu.2.2.2.2.2.1 = ((psz (k8 ++ [uu])).getLastD (nr, nc, pL, pG, pB, pk)).2.2.2.1 := (by rw [psz_snoc]; simp)
    rw [e_K] at hP hD
    have e_B : uu.2.2.2.2.2.2.1 = ((psz (k8 ++ [uu])).getLastD (nr, nc, pL, pG, pB, pk)).2.2.2.2.1 := (by rw [psz_snoc]; simp)
    rw [e_B] at hP hD
    have e_k : uu.2.2.2.2.2.2.2.1 = ((psz (k8 ++ [uu])).getLastD (nr, nc, pL, pG, pB, pk)).2.2.2.2.2 := (by rw [psz_snoc]; simp)
    rw [e_k] at hP hD
    subst hQ
    refine vx_ret ?_
    exact ret_i hx hb hr hlk (⟨pz2_6, ks2_6, ss2_6⟩) ⟨(congrArg nI (by rw [hw26.2.1]; simp)), ⟨c7, hw26.1, (by rw [hw26.2.1, hw26.2.2]; simp at h8 ⊢; omega), (by rw [hw26.2.1, psz_snoc, List.dropLast_concat])⟩⟩ hP hD hS rfl dX1_undo_36
set_option maxHeartbeats 4000000 in
set_option maxRecDepth 100000 in
theorem m_X1_restore (l : Launch) (G : GG) (vh : Nat) (ph : Nat) (th : Nat) (svh : Nat) (hs9 : Bool) (ah : Nat) (bh : Nat) (lh : Nat) (rh : Nat) (fa9 : Int32) (rf9 : Int32) (de9 : Int32) (pd : Nat → Nat) (nr : Nat) (nc : Nat) (pL : Nat → Nat) (pG : Nat → Nat) (pB : Nat → Bool) (pk : Nat → Int32) (pa : Nat → Nat) (pt : Nat → Nat) (pm : Nat) (qd : Nat → Nat) (mr : Nat) (mc9 : Nat) (qL : Nat → Nat) (qG : Nat → Nat) (qB : Nat → Bool) (qk : Nat → Int32) (qa : Nat → Nat) (qt : Nat → Nat) (qn : Nat) (pz : PZA) (ks : List PS) (ss : List PS) (hds : hs9 = true → 2 ≤ mr ∧ mr ≤ 3 ∧ 2 ≤ mc9 ∧ mc9 ≤ 3) (hqL : ∀ i, qL i < 65536) (hqG : ∀ i, qG i < 65536) (hz : PAh pz ks ss) (h8 : ks.length + ss.length = 8) (hst : l.stackTraces = false) : MX l G yX1_restore cX1_restore 1 (some .int) ⟨7, 1, 6, 101⟩ [.ref vh] (VTW G vh ph th svh hs9 ah bh lh rh fa9 rf9 de9 ++ PW G ph pd nr nc pL pG pB pk pa pt pm ++ PW G svh qd mr mc9 qL qG qB qk qa qt qn ++ PAW G ah pz ks ss) (Qi_ G (fun (r : Int32) (u : (PZA) × (List PS) × (List PS)) => (r = nI (hm mr mc9 qL qG)) ∧ (hs9 = true ∧ PAh u.1 u.2.1 u.2.2 ∧ u.2.1.length + u.2.2.length = 8 ∧ psz u.2.1 = [])) (fun (u : (PZA) × (List PS) × (List PS)) => (VTW G vh ph th svh hs9 ah bh lh rh fa9 rf9 de9 ++ PW G ph pd mr mc9 qL qG qB qk pa pt pm ++ PW G svh qd mr mc9 qL qG qB qk qa qt qn ++ PAW G ah u.1 u.2.1 u.2.2))) (XQ G (fun (_ : Unit) => RJ9) (fun (_ : Unit) => hs9 = false) (fun (q9 : Nat) (_ : Unit) => (VTW G vh ph th svh hs9 ah bh lh rh fa9 rf9 de9 ++ PW G ph pd nr nc pL pG pB pk pa pt pm ++ PW G svh qd mr mc9 qL qG qB qk qa qt qn ++ PAW G ah pz ks ss))) := by
  refine MX.of (by decide) (Nat.le_of_ble_eq_true rfl) ?_
  intro p e s m args below meth cd A C hini hA hK hZ hP hD hnt ls hl
  generalize hQ : vx_MQ below ((Qi_ G (fun (r : Int32) (u : (PZA) × (List PS) × (List PS)) => (r = nI (hm mr mc9 qL qG)) ∧ (hs9 = true ∧ PAh u.1 u.2.1 u.2.2 ∧ u.2.1.length + u.2.2.length = 8 ∧ psz u.2.1 = [])) (fun (u : (PZA) × (List PS) × (List PS)) => (VTW G vh ph th svh hs9 ah bh lh rh fa9 rf9 de9 ++ PW G ph pd mr mc9 qL qG qB qk pa pt pm ++ PW G svh qd mr mc9 qL qG qB qk qa qt qn ++ PAW G ah u.1 u.2.1 u.2.2))) A) ((XQ G (fun (_ : Unit) => RJ9) (fun (_ : Unit) => hs9 = false) (fun (q9 : Nat) (_ : Unit) => (VTW G vh ph th svh hs9 ah bh lh rh fa9 rf9 de9 ++ PW G ph pd nr nc pL pG pB pk pa pt pm ++ PW G svh qd mr mc9 qL qG qB qk qa qt qn ++ PAW G ah pz ks ss))) A) args s (⟨7, 1, 6, 101⟩ : Room).cells (⟨7, 1, 6, 101⟩ : Room).slots A = Q
  obtain ⟨hx, hb, hr, hts, hown, hlk, hml⟩ := C
  have hown : s.vm.findClass RX1 = some m.cls := hown
  have hS : va_S A s.heap s.heap [] := va_S.rf
  have hl : lv_has ls 1 [(0, .ref vh)] := hl
  refine lv_aload_n hx hb dX1_restore_0 rfl (lv_at hl 0 rfl) ?_
  refine va_get (D := G.1) (ci := 0) (v := .int (bI hs9)) (C := RX1) (T := TX1) (N := 11) hx hb hts in_X1 hown hK hP 0 rfl rfl 3 (by decide) (hts _ q431) (fun _ h9 => h9) rfl dX1_restore_1 ?_
  have hP : va_P G.1 CL (cat [VTW G vh ph th svh hs9 ah bh lh rh fa9 rf9 de9, PW G ph pd nr nc pL pG pB pk pa pt pm, PW G svh qd mr mc9 qL qG qB qk qa qt qn, PAW G ah pz ks ss]) _ := hP
  have hD : va_D A (cat [VTW G vh ph th svh hs9 ah bh lh rh fa9 rf9 de9, PW G ph pd nr nc pL pG pB pk pa pt pm, PW G svh qd mr mc9 qL qG qB qk qa qt qn, PAW G ah pz ks ss]) := hD
  obtain ⟨hP, hD⟩ := cut_B (bs' := [VTW G vh ph th svh hs9 ah bh lh rh fa9 rf9 de9, PW G ph pd nr nc pL pG pB pk pa pt pm, PW G svh qd mr mc9 qL qG qB qk qa qt qn, PAW G ah pz ks ss]) hP hD [0, 1, 2, 3] (by decide) rfl
  have hP : va_P G.1 CL (([] : va_W) ++ (VTW G vh ph th svh hs9 ah bh lh rh fa9 rf9 de9 ++ PW G ph pd nr nc pL pG pB pk pa pt pm ++ PW G svh qd mr mc9 qL qG qB qk qa qt qn ++ PAW G ah pz ks ss)) _ := hP
  have hD : va_D A (([] : va_W) ++ (VTW G vh ph th svh hs9 ah bh lh rh fa9 rf9 de9 ++ PW G ph pd nr nc pL pG pB pk pa pt pm ++ PW G svh qd mr mc9 qL qG qB qk qa qt qn ++ PAW G ah pz ks ss)) := hD
  refine callXSv (As := [.int (bI hs9)]) (rest := []) (wc := ([] : va_W)) (wr := (VTW G vh ph th svh hs9 ah bh lh rh fa9 rf9 de9 ++ PW G ph pd nr nc pL pG pB pk pa pt pm ++ PW G svh qd mr mc9 qL qG qB qk qa qt qn ++ PAW G ah pz ks ss)) ⟨hx, hb, hml, hown, hts⟩ (m_X1_checkState l G hs9 (by first | assumption | omega)) (va_cwS 1 hts (lw_S q1533 q1534 q88 q1535) rfl rfl rfl (by decide +kernel) ⟨Nat.le_of_ble_eq_true rfl, Nat.le_of_ble_eq_true rfl⟩) hK hZ hA hP hD hS (ixC ([] : va_W)) (ixR ([] : va_W) (VTW G vh ph th svh hs9 ah bh lh rh fa9 rf9 de9 ++ PW G ph pd nr nc pL pG pB pk pa pt pm ++ PW G svh qd mr mc9 qL qG qB qk qa qt qn ++ PAW G ah pz ks ss)) ixC_ok ixR_ok ixC_nd ixR_nd ix_dis rfl hl.1 (Nat.le_of_ble_eq_true rfl) ⟨Nat.le_of_ble_eq_true rfl, Nat.le_of_ble_eq_true rfl⟩ rfl dX1_restore_4 (fun ce9 q9 u9 H locs hw9 hP hD hS hce hcv hcl => ?_) (fun u9 H locs hw9 hP hD hS => ?_)
  · skip
    have hx4 : hs9 = false := hw9
    rw [List.append_nil] at hP hD
    have hP : va_P G.1 CL (cat [VTW G vh ph th svh hs9 ah bh lh rh fa9 rf9 de9, PW G ph pd nr nc pL pG pB pk pa pt pm, PW G svh qd mr mc9 qL qG qB qk qa qt qn, PAW G ah pz ks ss]) _ := hP
    have hD : va_D A (cat [VTW G vh ph th svh hs9 ah bh lh rh fa9 rf9 de9, PW G ph pd nr nc pL pG pB pk pa pt pm, PW G svh qd mr mc9 qL qG qB qk qa qt qn, PAW G ah pz ks ss]) := hD
    obtain ⟨hP, hD⟩ := cut_B (bs' := [VTW G vh ph th svh hs9 ah bh lh rh fa9 rf9 de9, PW G ph pd nr nc pL pG pB pk pa pt pm, PW G svh qd mr mc9 qL qG qB qk qa qt qn, PAW G ah pz ks ss]) hP hD [0, 1, 2, 3] (by decide) rfl
    have hP : va_P G.1 CL (VTW G vh ph th svh hs9 ah bh lh rh fa9 rf9 de9 ++ PW G ph pd nr nc pL pG pB pk pa pt pm ++ PW G svh qd mr mc9 qL qG qB qk qa qt qn ++ PAW G ah pz ks ss) _ := hP
    have hD : va_D A (VTW G vh ph th svh hs9 ah bh lh rh fa9 rf9 de9 ++ PW G ph pd nr nc pL pG pB pk pa pt pm ++ PW G svh qd mr mc9 qL qG qB qk qa qt qn ++ PAW G ah pz ks ss) := hD
    have hcl : s.vm.findClass RJ9 = some ce9.cls := hcl
    subst hQ
    refine vx_widen (k := 1) (n := 6) (Nat.le_of_ble_eq_true rfl) (Nat.le_of_ble_eq_true rfl) ?_
    exact out_x (by rw [hnt]; exact fun x9 hx9 => nomatch hx9) hlk () hx4 hP hD hS hce hcv hcl (Nat.le_refl _) (Nat.le_refl _)
  refine W.widen (k := 1) (n := 6) (Nat.le_refl _) (Nat.le_refl _) ?_
  have hs4 : hs9 = true := hw9
  rw [List.append_nil] at hP hD
  have hP : va_P G.1 CL (cat [VTW G vh ph th svh hs9 ah bh lh rh fa9 rf9 de9, PW G ph pd nr nc pL pG pB pk pa pt pm, PW G svh qd mr mc9 qL qG qB qk qa qt qn, PAW G ah pz ks ss]) _ := hP
  have hD : va_D A (cat [VTW G vh ph th svh hs9 ah bh lh rh fa9 rf9 de9, PW G ph pd nr nc pL pG pB pk pa pt pm, PW G svh qd mr mc9 qL qG qB qk qa qt qn, PAW G ah pz ks ss]) := hD
  obtain ⟨hP, hD⟩ := cut_B (bs' := [VTW G vh ph th svh hs9 ah bh lh rh fa9 rf9 de9, PW G ph pd nr nc pL pG pB pk pa pt pm, PW G svh qd mr mc9 qL qG qB qk qa qt qn, PAW G ah pz ks ss]) hP hD [0, 1, 2, 3] (by decide) rfl
  have hP : va_P G.1 CL (VTW G vh ph th svh hs9 ah bh lh rh fa9 rf9 de9 ++ PW G ph pd nr nc pL pG pB pk pa pt pm ++ PW G svh qd mr mc9 qL qG qB qk qa qt qn ++ PAW G ah pz ks ss) _ := hP
  have hD : va_D A (VTW G vh ph th svh hs9 ah bh lh rh fa9 rf9 de9 ++ PW G ph pd nr nc pL pG pB pk pa pt pm ++ PW G svh qd mr mc9 qL qG qB qk qa qt qn ++ PAW G ah pz ks ss) := hD
  refine lv_aload_n hx hb dX1_restore_7 rfl (lv_at hl 0 rfl) ?_
  refine va_get (D := G.1) (ci := 0) (v := .ref ph) (C := RX1) (T := TX1) (N := 11) hx hb hts in_X1 hown hK hP 0 rfl rfl 0 (by decide) (hts _ q428) (fun _ h9 => h9) rfl dX1_restore_8 ?_
  refine lv_aload_n hx hb dX1_restore_11 rfl (lv_at hl 0 rfl) ?_
  refine va_get (D := G.1) (ci := 0) (v := .ref svh) (C := RX1) (T := TX1) (N := 11) hx hb hts in_X1 hown hK hP 0 rfl rfl 2 (by decide) (hts _ q430) (fun _ h9 => h9) rfl dX1_restore_12 ?_
  have hP : va_P G.1 CL (cat [VTW G vh ph th svh hs9 ah bh lh rh fa9 rf9 de9, PW G ph pd nr nc pL pG pB pk pa pt pm, PW G svh qd mr mc9 qL qG qB qk qa qt qn, PAW G ah pz ks ss]) _ := hP
  have hD : va_D A (cat [VTW G vh ph th svh hs9 ah bh lh rh fa9 rf9 de9, PW G ph pd nr nc pL pG pB pk pa pt pm, PW G svh qd mr mc9 qL qG qB qk qa qt qn, PAW G ah pz ks ss]) := hD
  obtain ⟨hP, hD⟩ := cut_B (bs' := [PW G ph pd nr nc pL pG pB pk pa pt pm, PW G svh qd mr mc9 qL qG qB qk qa qt qn, VTW G vh ph th svh hs9 ah bh lh rh fa9 rf9 de9, PAW G ah pz ks ss]) hP hD [1, 2, 0, 3] (by decide) rfl
  have hP : va_P G.1 CL ((PW G ph pd nr nc pL pG pB pk pa pt pm ++ PW G svh qd mr mc9 qL qG qB qk qa qt qn) ++ (VTW G vh ph th svh hs9 ah bh lh rh fa9 rf9 de9 ++ PAW G ah pz ks ss)) _ := hP
  have hD : va_D A ((PW G ph pd nr nc pL pG pB pk pa pt pm ++ PW G svh qd mr mc9 qL qG qB qk qa qt qn) ++ (VTW G vh ph th svh hs9 ah bh lh rh fa9 rf9 de9 ++ PAW G ah pz ks ss)) := hD
  refine callVv (As := [.ref svh]) (rest := []) (wc := (PW G ph pd nr nc pL pG pB pk pa pt pm ++ PW G svh qd mr mc9 qL qG qB qk qa qt qn)) (wr := (VTW G vh ph th svh hs9 ah bh lh rh fa9 rf9 de9 ++ PAW G ah pz ks ss)) ⟨hx, hb, hml, hown, hts⟩ (m_X2_take l G ph pd nr nc pL pG pB pk pa pt pm svh qd mr mc9 qL qG qB qk qa qt qn hqL hqG) (cwV 1 hts (lw_V q1098 q1099 q1100 q89 q1101) rfl rfl rfl (by decide +kernel) ⟨Nat.le_of_ble_eq_true rfl, Nat.le_of_ble_eq_true rfl⟩) hK hZ hA hP hD hS (ixC (PW G ph pd nr nc pL pG pB pk pa pt pm ++ PW G svh qd mr mc9 qL qG qB qk qa qt qn)) (ixR (PW G ph pd nr nc pL pG pB pk pa pt pm ++ PW G svh qd mr mc9 qL qG qB qk qa qt qn) (VTW G vh ph th svh hs9 ah bh lh rh fa9 rf9 de9 ++ PAW G ah pz ks ss)) ixC_ok ixR_ok ixC_nd ixR_nd ix_dis 0 1 rfl rfl rfl hl.1 (Nat.le_of_ble_eq_true rfl) ⟨Nat.le_of_ble_eq_true rfl, Nat.le_of_ble_eq_true rfl⟩ rfl dX1_restore_15 (fun u9 H locs hw9 hP hD hS => ?_)
  have hP : va_P G.1 CL (cat [VTW G vh ph th svh hs9 ah bh lh rh fa9 rf9 de9, PAW G ah pz ks ss, PW G ph pd mr mc9 qL qG qB qk pa pt pm, PW G svh qd mr mc9 qL qG qB qk qa qt qn]) _ := hP
  have hD : va_D A (cat [VTW G vh ph th svh hs9 ah bh lh rh fa9 rf9 de9, PAW G ah pz ks ss, PW G ph pd mr mc9 qL qG qB qk pa pt pm, PW G svh qd mr mc9 qL qG qB qk qa qt qn]) := hD
  obtain ⟨hP, hD⟩ := cut_B (bs' := [VTW G vh ph th svh hs9 ah bh lh rh fa9 rf9 de9, PW G ph pd mr mc9 qL qG qB qk pa pt pm, PW G svh qd mr mc9 qL qG qB qk qa qt qn, PAW G ah pz ks ss]) hP hD [0, 2, 3, 1] (by decide) rfl
  have hP : va_P G.1 CL (VTW G vh ph th svh hs9 ah bh lh rh fa9 rf9 de9 ++ PW G ph pd mr mc9 qL qG qB qk pa pt pm ++ PW G svh qd mr mc9 qL qG qB qk qa qt qn ++ PAW G ah pz ks ss) _ := hP
  have hD : va_D A (VTW G vh ph th svh hs9 ah bh lh rh fa9 rf9 de9 ++ PW G ph pd mr mc9 qL qG qB qk pa pt pm ++ PW G svh qd mr mc9 qL qG qB qk qa qt qn ++ PAW G ah pz ks ss) := hD
  refine lv_aload_n hx hb dX1_restore_18 rfl (lv_at hl 0 rfl) ?_
  refine va_get (D := G.1) (ci := 0) (v := .ref ah) (C := RX1) (T := TX1) (N := 11) hx hb hts in_X1 hown hK hP 0 rfl rfl 4 (by decide) (hts _ q432) (fun _ h9 => h9) rfl dX1_restore_19 ?_
  have hP : va_P G.1 CL (cat [VTW G vh ph th svh hs9 ah bh lh rh fa9 rf9 de9, PW G ph pd mr mc9 qL qG qB qk pa pt pm, PW G svh qd mr mc9 qL qG qB qk qa qt qn, PAW G ah pz ks ss]) _ := hP
  have hD : va_D A (cat [VTW G vh ph th svh hs9 ah bh lh rh fa9 rf9 de9, PW G ph pd mr mc9 qL qG qB qk pa pt pm, PW G svh qd mr mc9 qL qG qB qk qa qt qn, PAW G ah pz ks ss]) := hD
  obtain ⟨hP, hD⟩ := cut_B (bs' := [PAW G ah pz ks ss, VTW G vh ph th svh hs9 ah bh lh rh fa9 rf9 de9, PW G ph pd mr mc9 qL qG qB qk pa pt pm, PW G svh qd mr mc9 qL qG qB qk qa qt qn]) hP hD [3, 0, 1, 2] (by decide) rfl
  have hP : va_P G.1 CL ((PAW G ah pz ks ss) ++ (VTW G vh ph th svh hs9 ah bh lh rh fa9 rf9 de9 ++ PW G ph pd mr mc9 qL qG qB qk pa pt pm ++ PW G svh qd mr mc9 qL qG qB qk qa qt qn)) _ := hP
  have hD : va_D A ((PAW G ah pz ks ss) ++ (VTW G vh ph th svh hs9 ah bh lh rh fa9 rf9 de9 ++ PW G ph pd mr mc9 qL qG qB qk pa pt pm ++ PW G svh qd mr mc9 qL qG qB qk qa qt qn)) := hD
  refine callVv (As := []) (rest := []) (wc := (PAW G ah pz ks ss)) (wr := (VTW G vh ph th svh hs9 ah bh lh rh fa9 rf9 de9 ++ PW G ph pd mr mc9 qL qG qB qk pa pt pm ++ PW G svh qd mr mc9 qL qG qB qk qa qt qn)) ⟨hx, hb, hml, hown, hts⟩ (m_X3_forgets l G ah pz ks ss hz (by omega)) (cwV 0 hts (lw_V q1713 q1714 q1715 q90 q1716) rfl rfl rfl (by decide +kernel) ⟨Nat.le_of_ble_eq_true rfl, Nat.le_of_ble_eq_true rfl⟩) hK hZ hA hP hD hS (ixC (PAW G ah pz ks ss)) (ixR (PAW G ah pz ks ss) (VTW G vh ph th svh hs9 ah bh lh rh fa9 rf9 de9 ++ PW G ph pd mr mc9 qL qG qB qk pa pt pm ++ PW G svh qd mr mc9 qL qG qB qk qa qt qn)) ixC_ok ixR_ok ixC_nd ixR_nd ix_dis 0 2 rfl rfl rfl hl.1 (Nat.le_of_ble_eq_true rfl) ⟨Nat.le_of_ble_eq_true rfl, Nat.le_of_ble_eq_true rfl⟩ rfl dX1_restore_22 (fun u9 H locs hw9 hP hD hS => ?_)
  obtain ⟨pz2_4, ks2_4, ss2_4⟩ := u9
  have hw22 : PAh pz2_4 ks2_4 ss2_4 ∧ ks2_4 = [] ∧ ss2_4.length = ks.length + ss.length := hw9
  have hP : va_P G.1 CL (cat [VTW G vh ph th svh hs9 ah bh lh rh fa9 rf9 de9, PW G ph pd mr mc9 qL qG qB qk pa pt pm, PW G svh qd mr mc9 qL qG qB qk qa qt qn, PAW G ah pz2_4 ks2_4 ss2_4]) _ := hP
  have hD : va_D A (cat [VTW G vh ph th svh hs9 ah bh lh rh fa9 rf9 de9, PW G ph pd mr mc9 qL qG qB qk pa pt pm, PW G svh qd mr mc9 qL qG qB qk qa qt qn, PAW G ah pz2_4 ks2_4 ss2_4]) := hD
  obtain ⟨hP, hD⟩ := cut_B (bs' := [VTW G vh ph th svh hs9 ah bh lh rh fa9 rf9 de9, PW G ph pd mr mc9 qL qG qB qk pa pt pm, PW G svh qd mr mc9 qL qG qB qk qa qt qn, PAW G ah pz2_4 ks2_4 ss2_4]) hP hD [0, 1, 2, 3] (by decide) rfl
  have hP : va_P G.1 CL (VTW G vh ph th svh hs9 ah bh lh rh fa9 rf9 de9 ++ PW G ph pd mr mc9 qL qG qB qk pa pt pm ++ PW G svh qd mr mc9 qL qG qB qk qa qt qn ++ PAW G ah pz2_4 ks2_4 ss2_4) _ := hP
  have hD : va_D A (VTW G vh ph th svh hs9 ah bh lh rh fa9 rf9 de9 ++ PW G ph pd mr mc9 qL qG qB qk pa pt pm ++ PW G svh qd mr mc9 qL qG qB qk qa qt qn ++ PAW G ah pz2_4 ks2_4 ss2_4) := hD
  refine lv_aload_n hx hb dX1_restore_25 rfl (lv_at hl 0 rfl) ?_
  refine va_get (D := G.1) (ci := 0) (v := .ref ph) (C := RX1) (T := TX1) (N := 11) hx hb hts in_X1 hown hK hP 0 rfl rfl 0 (by decide) (hts _ q428) (fun _ h9 => h9) rfl dX1_restore_26 ?_
  have hP : va_P G.1 CL (cat [VTW G vh ph th svh hs9 ah bh lh rh fa9 rf9 de9, PW G ph pd mr mc9 qL qG qB qk pa pt pm, PW G svh qd mr mc9 qL qG qB qk qa qt qn, PAW G ah pz2_4 ks2_4 ss2_4]) _ := hP
  have hD : va_D A (cat [VTW G vh ph th svh hs9 ah bh lh rh fa9 rf9 de9, PW G ph pd mr mc9 qL qG qB qk pa pt pm, PW G svh qd mr mc9 qL qG qB qk qa qt qn, PAW G ah pz2_4 ks2_4 ss2_4]) := hD
  obtain ⟨hP, hD⟩ := cut_B (bs' := [PW G ph pd mr mc9 qL qG qB qk pa pt pm, VTW G vh ph th svh hs9 ah bh lh rh fa9 rf9 de9, PW G svh qd mr mc9 qL qG qB qk qa qt qn, PAW G ah pz2_4 ks2_4 ss2_4]) hP hD [1, 0, 2, 3] (by decide) rfl
  have hP : va_P G.1 CL ((PW G ph pd mr mc9 qL qG qB qk pa pt pm) ++ (VTW G vh ph th svh hs9 ah bh lh rh fa9 rf9 de9 ++ PW G svh qd mr mc9 qL qG qB qk qa qt qn ++ PAW G ah pz2_4 ks2_4 ss2_4)) _ := hP
  have hD : va_D A ((PW G ph pd mr mc9 qL qG qB qk pa pt pm) ++ (VTW G vh ph th svh hs9 ah bh lh rh fa9 rf9 de9 ++ PW G svh qd mr mc9 qL qG qB qk qa qt qn ++ PAW G ah pz2_4 ks2_4 ss2_4)) := hD
  refine callVi (As := []) (rest := []) (wc := (PW G ph pd mr mc9 qL qG qB qk pa pt pm)) (wr := (VTW G vh ph th svh hs9 ah bh lh rh fa9 rf9 de9 ++ PW G svh qd mr mc9 qL qG qB qk qa qt qn ++ PAW G ah pz2_4 ks2_4 ss2_4)) ⟨hx, hb, hml, hown, hts⟩ (m_X2_home l G ph pd mr mc9 qL qG qB qk pa pt pm (hds hs4) hqL hqG) (cwV 0 hts (lw_V q509 q510 q511 q89 q512) rfl rfl rfl (by decide +kernel) ⟨Nat.le_of_ble_eq_true rfl, Nat.le_of_ble_eq_true rfl⟩) hK hZ hA hP hD hS (ixC (PW G ph pd mr mc9 qL qG qB qk pa pt pm)) (ixR (PW G ph pd mr mc9 qL qG qB qk pa pt pm) (VTW G vh ph th svh hs9 ah bh lh rh fa9 rf9 de9 ++ PW G svh qd mr mc9 qL qG qB qk qa qt qn ++ PAW G ah pz2_4 ks2_4 ss2_4)) ixC_ok ixR_ok ixC_nd ixR_nd ix_dis 0 1 rfl rfl rfl hl.1 (Nat.le_of_ble_eq_true rfl) ⟨Nat.le_of_ble_eq_true rfl, Nat.le_of_ble_eq_true rfl⟩ rfl dX1_restore_29 (fun r9 u9 H locs hw9 hP hD hS => ?_)
  subst hw9
  have hP : va_P G.1 CL (cat [VTW G vh ph th svh hs9 ah bh lh rh fa9 rf9 de9, PW G svh qd mr mc9 qL qG qB qk qa qt qn, PAW G ah pz2_4 ks2_4 ss2_4, PW G ph pd mr mc9 qL qG qB qk pa pt pm]) _ := hP
  have hD : va_D A (cat [VTW G vh ph th svh hs9 ah bh lh rh fa9 rf9 de9, PW G svh qd mr mc9 qL qG qB qk qa qt qn, PAW G ah pz2_4 ks2_4 ss2_4, PW G ph pd mr mc9 qL qG qB qk pa pt pm]) := hD
  obtain ⟨hP, hD⟩ := cut_B (bs' := [VTW G vh ph th svh hs9 ah bh lh rh fa9 rf9 de9, PW G ph pd mr mc9 qL qG qB qk pa pt pm, PW G svh qd mr mc9 qL qG qB qk qa qt qn, PAW G ah pz2_4 ks2_4 ss2_4]) hP hD [0, 3, 1, 2] (by decide) rfl
  have hP : va_P G.1 CL (VTW G vh ph th svh hs9 ah bh lh rh fa9 rf9 de9 ++ PW G ph pd mr mc9 qL qG qB qk pa pt pm ++ PW G svh qd mr mc9 qL qG qB qk qa qt qn ++ PAW G ah pz2_4 ks2_4 ss2_4) _ := hP
  have hD : va_D A (VTW G vh ph th svh hs9 ah bh lh rh fa9 rf9 de9 ++ PW G ph pd mr mc9 qL qG qB qk pa pt pm ++ PW G svh qd mr mc9 qL qG qB qk qa qt qn ++ PAW G ah pz2_4 ks2_4 ss2_4) := hD
  subst hQ
  refine vx_ret ?_
  exact ret_i hx hb hr hlk (⟨pz2_4, ks2_4, ss2_4⟩) ⟨rfl, ⟨hs4, hw22.1, (by rw [hw22.2.1, hw22.2.2]; simpa using h8), (by rw [hw22.2.1]; rfl)⟩⟩ hP hD hS rfl dX1_restore_32
set_option maxHeartbeats 4000000 in
set_option maxRecDepth 100000 in
theorem m_X1_step (l : Launch) (G : GG) (vh : Nat) (ph : Nat) (th : Nat) (svh : Nat) (hs9 : Bool) (ah : Nat) (bh : Nat) (lh : Nat) (rh : Nat) (fa9 : Int32) (rf9 : Int32) (de9 : Int32) (pd : Nat → Nat) (nr : Nat) (nc : Nat) (pL : Nat → Nat) (pG : Nat → Nat) (pB : Nat → Bool) (pk : Nat → Int32) (pa : Nat → Nat) (pt : Nat → Nat) (pm : Nat) (qd : Nat → Nat) (pz : PZA) (ks : List PS) (ss : List PS) (qz : TZ) (hL : ∀ i, pL i < 65536) (hG : ∀ i, pG i < 65536) (hqz : okT qz) (hz : PAh pz ks ss) (h8 : ks.length + ss.length = 8) (hst : l.stackTraces = false) (hd : 2 ≤ nr ∧ nr ≤ 3 ∧ 2 ≤ nc ∧ nc ≤ 3) (hLR : ∀ q, q < nr * nc → 97 ≤ pL q ∧ pL q ≤ 108) (hKR : ∀ q, q < nr * nc → pG q = 46 ∨ (97 ≤ pG q ∧ pG q ≤ 108)) : MH l G yX1_step cX1_step 3 (some .int) [(2, 10, 13, 1)] ⟨9, 5, 37, 199⟩ [.ref vh] (VTW G vh ph th svh hs9 ah bh lh rh fa9 rf9 de9 ++ PW G ph pd nr nc pL pG pB pk pa pt pm ++ PW G th qd qz.1.1 qz.1.2.1 qz.1.2.2.1 qz.1.2.2.2.1 qz.1.2.2.2.2.1 qz.1.2.2.2.2.2 qz.2.1 qz.2.2.1 qz.2.2.2 ++ PAW G ah pz ks ss) (Qi_ G (fun (r : Int32) (u : (PZA) × (List PS) × (List PS) × (TZ)) => (r = (oStep (nr, nc, pL, pG, pB, pk)).2.2.1) ∧ ((oStep (nr, nc, pL, pG, pB, pk)).1 = 0 ∧ okT u.2.2.2 ∧ PAh u.1 u.2.1 u.2.2.1 ∧ u.2.1.length + u.2.2.1.length = 8 ∧ psz u.2.1 = pushH (psz ks) (nr, nc, pL, pG, pB, pk))) (fun (u : (PZA) × (List PS) × (List PS) × (TZ)) => (VTW G vh ph th svh hs9 ah bh lh rh fa9 rf9 de9 ++ PW G ph pd ((oStep (nr, nc, pL, pG, pB, pk)).2.1.1) ((oStep (nr, nc, pL, pG, pB, pk)).2.1.2.1) ((oStep (nr, nc, pL, pG, pB, pk)).2.1.2.2.1) ((oStep (nr, nc, pL, pG, pB, pk)).2.1.2.2.2.1) ((oStep (nr, nc, pL, pG, pB, pk)).2.1.2.2.2.2.1) ((oStep (nr, nc, pL, pG, pB, pk)).2.1.2.2.2.2.2) pa pt pm ++ PW G th qd u.2.2.2.1.1 u.2.2.2.1.2.1 u.2.2.2.1.2.2.1 u.2.2.2.1.2.2.2.1 u.2.2.2.1.2.2.2.2.1 u.2.2.2.1.2.2.2.2.2 u.2.2.2.2.1 u.2.2.2.2.2.1 u.2.2.2.2.2.2 ++ PAW G ah u.1 u.2.1 u.2.2.1))) (XQ G (fun (u : (TZ)) => (kT2 RJ15 RJ16 (oStep (nr, nc, pL, pG, pB, pk)).1)) (fun (u : (TZ)) => (¬ (oStep (nr, nc, pL, pG, pB, pk)).1 = 0) ∧ (oStep (nr, nc, pL, pG, pB, pk)).2.1 = (nr, nc, pL, pG, pB, pk) ∧ okT u) (fun (q9 : Nat) (u : (TZ)) => (VTW G vh ph th svh hs9 ah bh lh rh fa9 (oWy (oStep (nr, nc, pL, pG, pB, pk)) rf9) (oWd (oStep (nr, nc, pL, pG, pB, pk)) de9) ++ PW G ph pd nr nc pL pG pB pk pa pt pm ++ PW G th qd u.1.1 u.1.2.1 u.1.2.2.1 u.1.2.2.2.1 u.1.2.2.2.2.1 u.1.2.2.2.2.2 u.2.1 u.2.2.1 u.2.2.2 ++ PAW G ah pz ks ss))) := by
  refine MH.of (by decide) (Nat.le_of_ble_eq_true rfl) ?_
  intro p e s m args below meth cd A C hini hA hK hZ hP hD hnt ls hl
  generalize hQ : vx_MQ below ((Qi_ G (fun (r : Int32) (u : (PZA) × (List PS) × (List PS) × (TZ)) => (r = (oStep (nr, nc, pL, pG, pB, pk)).2.2.1) ∧ ((oStep (nr, nc, pL, pG, pB, pk)).1 = 0 ∧ okT u.2.2.2 ∧ PAh u.1 u.2.1 u.2.2.1 ∧ u.2.1.length + u.2.2.1.length = 8 ∧ psz u.2.1 = pushH (psz ks) (nr, nc, pL, pG, pB, pk))) (fun (u : (PZA) × (List PS) × (List PS) × (TZ)) => (VTW G vh ph th svh hs9 ah bh lh rh fa9 rf9 de9 ++ PW G ph pd ((oStep (nr, nc, pL, pG, pB, pk)).2.1.1) ((oStep (nr, nc, pL, pG, pB, pk)).2.1.2.1) ((oStep (nr, nc, pL, pG, pB, pk)).2.1.2.2.1) ((oStep (nr, nc, pL, pG, pB, pk)).2.1.2.2.2.1) ((oStep (nr, nc, pL, pG, pB, pk)).2.1.2.2.2.2.1) ((oStep (nr, nc, pL, pG, pB, pk)).2.1.2.2.2.2.2) pa pt pm ++ PW G th qd u.2.2.2.1.1 u.2.2.2.1.2.1 u.2.2.2.1.2.2.1 u.2.2.2.1.2.2.2.1 u.2.2.2.1.2.2.2.2.1 u.2.2.2.1.2.2.2.2.2 u.2.2.2.2.1 u.2.2.2.2.2.1 u.2.2.2.2.2.2 ++ PAW G ah u.1 u.2.1 u.2.2.1))) A) ((XQ G (fun (u : (TZ)) => (kT2 RJ15 RJ16 (oStep (nr, nc, pL, pG, pB, pk)).1)) (fun (u : (TZ)) => (¬ (oStep (nr, nc, pL, pG, pB, pk)).1 = 0) ∧ (oStep (nr, nc, pL, pG, pB, pk)).2.1 = (nr, nc, pL, pG, pB, pk) ∧ okT u) (fun (q9 : Nat) (u : (TZ)) => (VTW G vh ph th svh hs9 ah bh lh rh fa9 (oWy (oStep (nr, nc, pL, pG, pB, pk)) rf9) (oWd (oStep (nr, nc, pL, pG, pB, pk)) de9) ++ PW G ph pd nr nc pL pG pB pk pa pt pm ++ PW G th qd u.1.1 u.1.2.1 u.1.2.2.1 u.1.2.2.2.1 u.1.2.2.2.2.1 u.1.2.2.2.2.2 u.2.1 u.2.2.1 u.2.2.2 ++ PAW G ah pz ks ss))) A) args s (⟨9, 5, 37, 199⟩ : Room).cells (⟨9, 5, 37, 199⟩ : Room).slots A = Q
  obtain ⟨hx, hb, hr, hts, hown, hlk, hml⟩ := C
  have hown : s.vm.findClass RX1 = some m.cls := hown
  have hS : va_S A s.heap s.heap [] := va_S.rf
  have hl : lv_has ls 3 [(0, .ref vh)] := hl
  have hmu := dm_mul hd
  have ha9 : awZ nr nc pL pG pB ≤ 4 := awN_le _
  refine lv_iconst (v := (-1)) hx hb dX1_step_0 (by decide) ?_
  refine lv_istore_n (lv' := [(1, .int (-1)), (0, .ref vh)]) hx hb dX1_step_1 rfl hl (by decide) rfl (fun ls hl => ?_)
  refine lv_aload_n hx hb dX1_step_2 rfl (lv_at hl 1 rfl) ?_
  have hP : va_P G.1 CL (cat [VTW G vh ph th svh hs9 ah bh lh rh fa9 rf9 de9, PW G ph pd nr nc pL pG pB pk pa pt pm, PW G th qd qz.1.1 qz.1.2.1 qz.1.2.2.1 qz.1.2.2.2.1 qz.1.2.2.2.2.1 qz.1.2.2.2.2.2 qz.2.1 qz.2.2.1 qz.2.2.2, PAW G ah pz ks ss]) _ := hP
  have hD : va_D A (cat [VTW G vh ph th svh hs9 ah bh lh rh fa9 rf9 de9, PW G ph pd nr nc pL pG pB pk pa pt pm, PW G th qd qz.1.1 qz.1.2.1 qz.1.2.2.1 qz.1.2.2.2.1 qz.1.2.2.2.2.1 qz.1.2.2.2.2.2 qz.2.1 qz.2.2.1 qz.2.2.2, PAW G ah pz ks ss]) := hD
  obtain ⟨hP, hD⟩ := cut_B (bs' := [VTW G vh ph th svh hs9 ah bh lh rh fa9 rf9 de9, PW G ph pd nr nc pL pG pB pk pa pt pm, PW G th qd qz.1.1 qz.1.2.1 qz.1.2.2.1 qz.1.2.2.2.1 qz.1.2.2.2.2.1 qz.1.2.2.2.2.2 qz.2.1 qz.2.2.1 qz.2.2.2, PAW G ah pz ks ss]) hP hD [0, 1, 2, 3] (by decide) rfl
  have hP : va_P G.1 CL ((VTW G vh ph th svh hs9 ah bh lh rh fa9 rf9 de9 ++ PW G ph pd nr nc pL pG pB pk pa pt pm ++ PW G th qd qz.1.1 qz.1.2.1 qz.1.2.2.1 qz.1.2.2.2.1 qz.1.2.2.2.2.1 qz.1.2.2.2.2.2 qz.2.1 qz.2.2.1 qz.2.2.2) ++ (PAW G ah pz ks ss)) _ := hP
  have hD : va_D A ((VTW G vh ph th svh hs9 ah bh lh rh fa9 rf9 de9 ++ PW G ph pd nr nc pL pG pB pk pa pt pm ++ PW G th qd qz.1.1 qz.1.2.1 qz.1.2.2.1 qz.1.2.2.2.1 qz.1.2.2.2.2.1 qz.1.2.2.2.2.2 qz.2.1 qz.2.2.1 qz.2.2.2) ++ (PAW G ah pz ks ss)) := hD
  refine callVr (As := []) (rest := []) (wc := (VTW G vh ph th svh hs9 ah bh lh rh fa9 rf9 de9 ++ PW G ph pd nr nc pL pG pB pk pa pt pm ++ PW G th qd qz.1.1 qz.1.2.1 qz.1.2.2.1 qz.1.2.2.2.1 qz.1.2.2.2.2.1 qz.1.2.2.2.2.2 qz.2.1 qz.2.2.1 qz.2.2.2)) (wr := (PAW G ah pz ks ss)) ⟨hx, hb, hml, hown, hts⟩ (m_X1_tryOn l G vh ph th svh hs9 ah bh lh rh fa9 rf9 de9 pd nr nc pL pG pB pk pa pt pm qd qz.1.1 qz.1.2.1 qz.1.2.2.1 qz.1.2.2.2.1 qz.1.2.2.2.2.1 qz.1.2.2.2.2.2 qz.2.1 qz.2.2.1 qz.2.2.2 (by first | assumption | omega) (by first | assumption | omega)) (cwV 0 hts (lw_V q1124 q1126 qs16 q88 q1127) rfl rfl rfl (by decide +kernel) ⟨Nat.le_of_ble_eq_true rfl, Nat.le_of_ble_eq_true rfl⟩) hK hZ hA hP hD hS (ixC (VTW G vh ph th svh hs9 ah bh lh rh fa9 rf9 de9 ++ PW G ph pd nr nc pL pG pB pk pa pt pm ++ PW G th qd qz.1.1 qz.1.2.1 qz.1.2.2.1 qz.1.2.2.2.1 qz.1.2.2.2.2.1 qz.1.2.2.2.2.2 qz.2.1 qz.2.2.1 qz.2.2.2)) (ixR (VTW G vh ph th svh hs9 ah bh lh rh fa9 rf9 de9 ++ PW G ph pd nr nc pL pG pB pk pa pt pm ++ PW G th qd qz.1.1 qz.1.2.1 qz.1.2.2.1 qz.1.2.2.2.1 qz.1.2.2.2.2.1 qz.1.2.2.2.2.2 qz.2.1 qz.2.2.1 qz.2.2.2) (PAW G ah pz ks ss)) ixC_ok ixR_ok ixC_nd ixR_nd ix_dis 0 0 rfl rfl rfl hl.1 (Nat.le_of_ble_eq_true rfl) ⟨Nat.le_of_ble_eq_true rfl, Nat.le_of_ble_eq_true rfl⟩ rfl dX1_step_3 (fun r9 u9 H locs hw9 hP hD hS => ?_)
  subst r9
  have hP : va_P G.1 CL (cat [PAW G ah pz ks ss, VTW G vh ph th svh hs9 ah bh lh rh fa9 rf9 de9, PW G ph pd nr nc pL pG pB pk pa pt pm, PW G th qd nr nc pL pG pB pk qz.2.1 qz.2.2.1 qz.2.2.2]) _ := hP
  have hD : va_D A (cat [PAW G ah pz ks ss, VTW G vh ph th svh hs9 ah bh lh rh fa9 rf9 de9, PW G ph pd nr nc pL pG pB pk pa pt pm, PW G th qd nr nc pL pG pB pk qz.2.1 qz.2.2.1 qz.2.2.2]) := hD
  obtain ⟨hP, hD⟩ := cut_B (bs' := [VTW G vh ph th svh hs9 ah bh lh rh fa9 rf9 de9, PW G ph pd nr nc pL pG pB pk pa pt pm, PW G th qd nr nc pL pG pB pk qz.2.1 qz.2.2.1 qz.2.2.2, PAW G ah pz ks ss]) hP hD [1, 2, 3, 0] (by decide) rfl
  have hP : va_P G.1 CL (VTW G vh ph th svh hs9 ah bh lh rh fa9 rf9 de9 ++ PW G ph pd nr nc pL pG pB pk pa pt pm ++ PW G th qd nr nc pL pG pB pk qz.2.1 qz.2.2.1 qz.2.2.2 ++ PAW G ah pz ks ss) _ := hP
  have hD : va_D A (VTW G vh ph th svh hs9 ah bh lh rh fa9 rf9 de9 ++ PW G ph pd nr nc pL pG pB pk pa pt pm ++ PW G th qd nr nc pL pG pB pk qz.2.1 qz.2.2.1 qz.2.2.2 ++ PAW G ah pz ks ss) := hD
  have hP : va_P G.1 CL (cat [VTW G vh ph th svh hs9 ah bh lh rh fa9 rf9 de9, PW G ph pd nr nc pL pG pB pk pa pt pm, PW G th qd nr nc pL pG pB pk qz.2.1 qz.2.2.1 qz.2.2.2, PAW G ah pz ks ss]) _ := hP
  have hD : va_D A (cat [VTW G vh ph th svh hs9 ah bh lh rh fa9 rf9 de9, PW G ph pd nr nc pL pG pB pk pa pt pm, PW G th qd nr nc pL pG pB pk qz.2.1 qz.2.2.1 qz.2.2.2, PAW G ah pz ks ss]) := hD
  obtain ⟨hP, hD⟩ := cut_B (bs' := [PW G th qd nr nc pL pG pB pk qz.2.1 qz.2.2.1 qz.2.2.2, VTW G vh ph th svh hs9 ah bh lh rh fa9 rf9 de9, PW G ph pd nr nc pL pG pB pk pa pt pm, PAW G ah pz ks ss]) hP hD [2, 0, 1, 3] (by decide) rfl
  have hP : va_P G.1 CL ((PW G th qd nr nc pL pG pB pk qz.2.1 qz.2.2.1 qz.2.2.2) ++ (VTW G vh ph th svh hs9 ah bh lh rh fa9 rf9 de9 ++ PW G ph pd nr nc pL pG pB pk pa pt pm ++ PAW G ah pz ks ss)) _ := hP
  have hD : va_D A ((PW G th qd nr nc pL pG pB pk qz.2.1 qz.2.2.1 qz.2.2.2) ++ (VTW G vh ph th svh hs9 ah bh lh rh fa9 rf9 de9 ++ PW G ph pd nr nc pL pG pB pk pa pt pm ++ PAW G ah pz ks ss)) := hD
  refine callXVi (As := []) (rest := []) (wc := (PW G th qd nr nc pL pG pB pk qz.2.1 qz.2.2.1 qz.2.2.2)) (wr := (VTW G vh ph th svh hs9 ah bh lh rh fa9 rf9 de9 ++ PW G ph pd nr nc pL pG pB pk pa pt pm ++ PAW G ah pz ks ss)) ⟨hx, hb, hml, hown, hts⟩ (m_X2_step l G th qd nr nc pL pG pB pk qz.2.1 qz.2.2.1 qz.2.2.2 (by first | assumption | omega) hL hG hqz.2.2.1 hqz.2.2.2 (by first | assumption | omega) (by first | assumption | omega) (by first | assumption | omega)) (cwV 0 hts (lw_V q1340 q1341 q1342 q89 q1343) rfl rfl rfl (by decide +kernel) ⟨Nat.le_of_ble_eq_true rfl, Nat.le_of_ble_eq_true rfl⟩) hK hZ hA hP hD hS (ixC (PW G th qd nr nc pL pG pB pk qz.2.1 qz.2.2.1 qz.2.2.2)) (ixR (PW G th qd nr nc pL pG pB pk qz.2.1 qz.2.2.1 qz.2.2.2) (VTW G vh ph th svh hs9 ah bh lh rh fa9 rf9 de9 ++ PW G ph pd nr nc pL pG pB pk pa pt pm ++ PAW G ah pz ks ss)) ixC_ok ixR_ok ixC_nd ixR_nd ix_dis 0 1 rfl rfl rfl hl.1 (Nat.le_of_ble_eq_true rfl) ⟨Nat.le_of_ble_eq_true rfl, Nat.le_of_ble_eq_true rfl⟩ rfl dX1_step_6 (fun ce9 q9 u9 H locs hw9 hP hD hS hce hcv hcl => ?_) (fun r9 u9 H locs hw9 hP hD hS => ?_)
  · skip
    obtain ⟨r8_2, d8_2⟩ := u9
    have hx6 : (hm nr nc pL pG = nr * nc ∧ r8_2 = nI 5 ∧ d8_2 = nI (nr * nc)) ∨ ((¬ hm nr nc pL pG = nr * nc) ∧ otN nr nc pL pG = true ∧ r8_2 = nI 4 ∧ d8_2 = nI (nr * nc - hm nr nc pL pG)) := hw9
    have hP : va_P G.1 CL (cat [VTW G vh ph th svh hs9 ah bh lh rh fa9 rf9 de9, PW G ph pd nr nc pL pG pB pk pa pt pm, PAW G ah pz ks ss, PW G th qd nr nc pL pG pB pk qz.2.1 qz.2.2.1 qz.2.2.2, RFW G q9 r8_2 d8_2]) _ := hP
    have hD : va_D A (cat [VTW G vh ph th svh hs9 ah bh lh rh fa9 rf9 de9, PW G ph pd nr nc pL pG pB pk pa pt pm, PAW G ah pz ks ss, PW G th qd nr nc pL pG pB pk qz.2.1 qz.2.2.1 qz.2.2.2, RFW G q9 r8_2 d8_2]) := hD
    obtain ⟨hP, hD⟩ := cut_B (bs' := [VTW G vh ph th svh hs9 ah bh lh rh fa9 rf9 de9, PW G ph pd nr nc pL pG pB pk pa pt pm, PW G th qd nr nc pL pG pB pk qz.2.1 qz.2.2.1 qz.2.2.2, RFW G q9 r8_2 d8_2, PAW G ah pz ks ss]) hP hD [0, 1, 3, 4, 2] (by decide) rfl
    have hP : va_P G.1 CL (VTW G vh ph th svh hs9 ah bh lh rh fa9 rf9 de9 ++ PW G ph pd nr nc pL pG pB pk pa pt pm ++ PW G th qd nr nc pL pG pB pk qz.2.1 qz.2.2.1 qz.2.2.2 ++ RFW G q9 r8_2 d8_2 ++ PAW G ah pz ks ss) _ := hP
    have hD : va_D A (VTW G vh ph th svh hs9 ah bh lh rh fa9 rf9 de9 ++ PW G ph pd nr nc pL pG pB pk pa pt pm ++ PW G th qd nr nc pL pG pB pk qz.2.1 qz.2.2.1 qz.2.2.2 ++ RFW G q9 r8_2 d8_2 ++ PAW G ah pz ks ss) := hD
    have hcl : s.vm.findClass RX6 = some ce9.cls := hcl
    refine vx_catch (own := RX1) (name := "VowelTorus$Refused") (E := RY6) hown [] ⟨2, 10, 13, 1⟩ [] (hnt.trans (by rfl)) (fun z hz => nomatch hz) (by decide) (by decide) (hts _ q1179) (va_Nw.use rfl (KS.nw hZ q1218 rfl)) hce hcv hcl ?_
    obtain ⟨qx3, e8⟩ : ∃ z, z = q9 := ⟨_, rfl⟩
    subst e8
    refine lv_astore_n (lv' := [(2, .ref qx3), (1, .int (-1)), (0, .ref vh)]) hx hb dX1_step_13 rfl hl (by decide) rfl (fun ls hl => ?_)
    refine lv_aload_n hx hb dX1_step_14 rfl (lv_at hl 2 rfl) ?_
    refine lv_aload_n hx hb dX1_step_15 rfl (lv_at hl 0 rfl) ?_
    have hP : va_P G.1 CL (cat [VTW G vh ph th svh hs9 ah bh lh rh fa9 rf9 de9, PW G ph pd nr nc pL pG pB pk pa pt pm, PW G th qd nr nc pL pG pB pk qz.2.1 qz.2.2.1 qz.2.2.2, RFW G qx3 r8_2 d8_2, PAW G ah pz ks ss]) _ := hP
    have hD : va_D A (cat [VTW G vh ph th svh hs9 ah bh lh rh fa9 rf9 de9, PW G ph pd nr nc pL pG pB pk pa pt pm, PW G th qd nr nc pL pG pB pk qz.2.1 qz.2.2.1 qz.2.2.2, RFW G qx3 r8_2 d8_2, PAW G ah pz ks ss]) := hD
    obtain ⟨hP, hD⟩ := cut_B (bs' := [VTW G vh ph th svh hs9 ah bh lh rh fa9 rf9 de9, RFW G qx3 r8_2 d8_2, PW G ph pd nr nc pL pG pB pk pa pt pm, PW G th qd nr nc pL pG pB pk qz.2.1 qz.2.2.1 qz.2.2.2, PAW G ah pz ks ss]) hP hD [0, 3, 1, 2, 4] (by decide) rfl
    have hP : va_P G.1 CL ((VTW G vh ph th svh hs9 ah bh lh rh fa9 rf9 de9 ++ RFW G qx3 r8_2 d8_2) ++ (PW G ph pd nr nc pL pG pB pk pa pt pm ++ PW G th qd nr nc pL pG pB pk qz.2.1 qz.2.2.1 qz.2.2.2 ++ PAW G ah pz ks ss)) _ := hP
    have hD : va_D A ((VTW G vh ph th svh hs9 ah bh lh rh fa9 rf9 de9 ++ RFW G qx3 r8_2 d8_2) ++ (PW G ph pd nr nc pL pG pB pk pa pt pm ++ PW G th qd nr nc pL pG pB pk qz.2.1 qz.2.2.1 qz.2.2.2 ++ PAW G ah pz ks ss)) := hD
    refine callVr (As := [.ref qx3]) (rest := []) (wc := (VTW G vh ph th svh hs9 ah bh lh rh fa9 rf9 de9 ++ RFW G qx3 r8_2 d8_2)) (wr := (PW G ph pd nr nc pL pG pB pk pa pt pm ++ PW G th qd nr nc pL pG pB pk qz.2.1 qz.2.2.1 qz.2.2.2 ++ PAW G ah pz ks ss)) ⟨hx, hb, hml, hown, hts⟩ (m_X1_because l G vh ph th svh hs9 ah bh lh rh fa9 rf9 de9 qx3 r8_2 d8_2 (by first | assumption | omega)) (cwV 1 hts (lw_V q1239 q1241 qs20 q88 q1242) rfl rfl rfl (by decide +kernel) ⟨Nat.le_of_ble_eq_true rfl, Nat.le_of_ble_eq_true rfl⟩) hK hZ hA hP hD hS (ixC (VTW G vh ph th svh hs9 ah bh lh rh fa9 rf9 de9 ++ RFW G qx3 r8_2 d8_2)) (ixR (VTW G vh ph th svh hs9 ah bh lh rh fa9 rf9 de9 ++ RFW G qx3 r8_2 d8_2) (PW G ph pd nr nc pL pG pB pk pa pt pm ++ PW G th qd nr nc pL pG pB pk qz.2.1 qz.2.2.1 qz.2.2.2 ++ PAW G ah pz ks ss)) ixC_ok ixR_ok ixC_nd ixR_nd ix_dis 0 0 rfl rfl rfl hl.1 (Nat.le_of_ble_eq_true rfl) ⟨Nat.le_of_ble_eq_true rfl, Nat.le_of_ble_eq_true rfl⟩ rfl dX1_step_16 (fun r9 u9 H locs hw9 hP hD hS => ?_)
    refine W.widen (k := 4) (n := 31) (Nat.le_refl _) (Nat.le_refl _) ?_
    obtain ⟨r_4, e8⟩ : ∃ z, z = r9 := ⟨_, rfl⟩
    subst e8
    have hP : va_P G.1 CL (cat [PW G ph pd nr nc pL pG pB pk pa pt pm, PW G th qd nr nc pL pG pB pk qz.2.1 qz.2.2.1 qz.2.2.2, PAW G ah pz ks ss, VTW G vh ph th svh hs9 ah bh lh rh fa9 r8_2 d8_2, RFW G qx3 r8_2 d8_2, UOW G r_4]) _ := hP
    have hD : va_D A (cat [PW G ph pd nr nc pL pG pB pk pa pt pm, PW G th qd nr nc pL pG pB pk qz.2.1 qz.2.2.1 qz.2.2.2, PAW G ah pz ks ss, VTW G vh ph th svh hs9 ah bh lh rh fa9 r8_2 d8_2, RFW G qx3 r8_2 d8_2, UOW G r_4]) := hD
    obtain ⟨hP, hD⟩ := cut_B (bs' := [VTW G vh ph th svh hs9 ah bh lh rh fa9 r8_2 d8_2, PW G ph pd nr nc pL pG pB pk pa pt pm, PW G th qd nr nc pL pG pB pk qz.2.1 qz.2.2.1 qz.2.2.2, RFW G qx3 r8_2 d8_2, UOW G r_4, PAW G ah pz ks ss]) hP hD [3, 0, 1, 4, 5, 2] (by decide) rfl
    have hP : va_P G.1 CL (VTW G vh ph th svh hs9 ah bh lh rh fa9 r8_2 d8_2 ++ PW G ph pd nr nc pL pG pB pk pa pt pm ++ PW G th qd nr nc pL pG pB pk qz.2.1 qz.2.2.1 qz.2.2.2 ++ RFW G qx3 r8_2 d8_2 ++ UOW G r_4 ++ PAW G ah pz ks ss) _ := hP
    have hD : va_D A (VTW G vh ph th svh hs9 ah bh lh rh fa9 r8_2 d8_2 ++ PW G ph pd nr nc pL pG pB pk pa pt pm ++ PW G th qd nr nc pL pG pB pk qz.2.1 qz.2.2.1 qz.2.2.2 ++ RFW G qx3 r8_2 d8_2 ++ UOW G r_4 ++ PAW G ah pz ks ss) := hD
    have hO9 : (oStep (nr, nc, pL, pG, pB, pk)) = (1, (nr, nc, pL, pG, pB, pk), nI 0, some (r8_2, d8_2)) := by
      rcases hx6 with ⟨h1, e1, e2⟩ | ⟨h1, h2, e1, e2⟩
      · rw [e1, e2]; unfold oStep; rw [if_pos h1]
      · rw [e1, e2]; unfold oStep; rw [if_neg h1, if_pos h2]
    refine vx_athrow hx hb dX1_step_19 ?_
    obtain ⟨ce9, hce, hcv, hcl⟩ := cell_of hK hP (ci := 14) (q0 := 14) rfl rfl
    have hcl : s.vm.findClass RJ15 = some ce9.cls := hcl
    obtain ⟨q9, eq9⟩ : ∃ z, z = r_4 := ⟨_, rfl⟩
    rw [← eq9] at hP hD hce ⊢
    have hP : va_P G.1 CL (VTW G vh ph th svh hs9 ah bh lh rh fa9 r8_2 d8_2 ++ PW G ph pd nr nc pL pG pB pk pa pt pm ++ PW G th qd nr nc pL pG pB pk qz.2.1 qz.2.2.1 qz.2.2.2 ++ RFW G qx3 r8_2 d8_2 ++ UOW G q9 ++ PAW G ah pz ks ss) _ := hP
    have hD : va_D A (VTW G vh ph th svh hs9 ah bh lh rh fa9 r8_2 d8_2 ++ PW G ph pd nr nc pL pG pB pk pa pt pm ++ PW G th qd nr nc pL pG pB pk qz.2.1 qz.2.2.1 qz.2.2.2 ++ RFW G qx3 r8_2 d8_2 ++ UOW G q9 ++ PAW G ah pz ks ss) := hD
    have hP : va_P G.1 CL (cat [VTW G vh ph th svh hs9 ah bh lh rh fa9 r8_2 d8_2, PW G ph pd nr nc pL pG pB pk pa pt pm, PW G th qd nr nc pL pG pB pk qz.2.1 qz.2.2.1 qz.2.2.2, RFW G qx3 r8_2 d8_2, UOW G q9, PAW G ah pz ks ss]) _ := hP
    have hD : va_D A (cat [VTW G vh ph th svh hs9 ah bh lh rh fa9 r8_2 d8_2, PW G ph pd nr nc pL pG pB pk pa pt pm, PW G th qd nr nc pL pG pB pk qz.2.1 qz.2.2.1 qz.2.2.2, RFW G qx3 r8_2 d8_2, UOW G q9, PAW G ah pz ks ss]) := hD
    obtain ⟨hP, hD⟩ := cut_B (bs' := [VTW G vh ph th svh hs9 ah bh lh rh fa9 r8_2 d8_2, PW G ph pd nr nc pL pG pB pk pa pt pm, PW G th qd nr nc pL pG pB pk qz.2.1 qz.2.2.1 qz.2.2.2, PAW G ah pz ks ss]) hP hD [0, 1, 2, 5] (by decide) rfl
    have hP : va_P G.1 CL (VTW G vh ph th svh hs9 ah bh lh rh fa9 r8_2 d8_2 ++ PW G ph pd nr nc pL pG pB pk pa pt pm ++ PW G th qd nr nc pL pG pB pk qz.2.1 qz.2.2.1 qz.2.2.2 ++ PAW G ah pz ks ss) _ := hP
    have hD : va_D A (VTW G vh ph th svh hs9 ah bh lh rh fa9 r8_2 d8_2 ++ PW G ph pd nr nc pL pG pB pk pa pt pm ++ PW G th qd nr nc pL pG pB pk qz.2.1 qz.2.2.1 qz.2.2.2 ++ PAW G ah pz ks ss) := hD
    subst hQ
    rw [hO9]
    refine vx_widen (k := 5) (n := 37) (Nat.le_of_ble_eq_true rfl) (Nat.le_of_ble_eq_true rfl) ?_
    exact out_x (by rw [hnt]; decide) hlk ((nr, nc, pL, pG, pB, pk), qz.2.1, qz.2.2.1, qz.2.2.2) ⟨(by decide : ¬ (1 : Nat) = 0), rfl, ⟨hL, hG, hqz.2.2⟩⟩ hP hD hS hce hcv hcl (Nat.le_refl _) (Nat.le_refl _)
  refine W.widen (k := 3) (n := 25) (Nat.le_refl _) (Nat.le_refl _) ?_
  obtain ⟨a1_5, t1_5, n1_5⟩ := u9
  obtain ⟨hr9, hw6⟩ := hw9
  subst hr9
  have hw6 : ((¬ hm nr nc pL pG = nr * nc) ∧ otN nr nc pL pG = false) ∧ (∀ i, a1_5 i < 65536) ∧ ∀ i, t1_5 i < 100 := hw6
  have hP : va_P G.1 CL (cat [VTW G vh ph th svh hs9 ah bh lh rh fa9 rf9 de9, PW G ph pd nr nc pL pG pB pk pa pt pm, PAW G ah pz ks ss, PW G th qd nr nc (stL nr nc pL pG pB) pG pB (stK nr nc pL pG pB pk) a1_5 t1_5 n1_5]) _ := hP
  have hD : va_D A (cat [VTW G vh ph th svh hs9 ah bh lh rh fa9 rf9 de9, PW G ph pd nr nc pL pG pB pk pa pt pm, PAW G ah pz ks ss, PW G th qd nr nc (stL nr nc pL pG pB) pG pB (stK nr nc pL pG pB pk) a1_5 t1_5 n1_5]) := hD
  obtain ⟨hP, hD⟩ := cut_B (bs' := [VTW G vh ph th svh hs9 ah bh lh rh fa9 rf9 de9, PW G ph pd nr nc pL pG pB pk pa pt pm, PW G th qd nr nc (stL nr nc pL pG pB) pG pB (stK nr nc pL pG pB pk) a1_5 t1_5 n1_5, PAW G ah pz ks ss]) hP hD [0, 1, 3, 2] (by decide) rfl
  have hP : va_P G.1 CL (VTW G vh ph th svh hs9 ah bh lh rh fa9 rf9 de9 ++ PW G ph pd nr nc pL pG pB pk pa pt pm ++ PW G th qd nr nc (stL nr nc pL pG pB) pG pB (stK nr nc pL pG pB pk) a1_5 t1_5 n1_5 ++ PAW G ah pz ks ss) _ := hP
  have hD : va_D A (VTW G vh ph th svh hs9 ah bh lh rh fa9 rf9 de9 ++ PW G ph pd nr nc pL pG pB pk pa pt pm ++ PW G th qd nr nc (stL nr nc pL pG pB) pG pB (stK nr nc pL pG pB pk) a1_5 t1_5 n1_5 ++ PAW G ah pz ks ss) := hD
  refine lv_istore_n (lv' := [(1, .int (stV nr nc pL pG pB)), (0, .ref vh)]) hx hb dX1_step_9 rfl hl (by decide) rfl (fun ls hl => ?_)
  refine lv_goto (tgt := 20) hx hb dX1_step_10 (by decide) ?_
  have hstL : ∀ i, stL nr nc pL pG pB i < 65536 := by
    unfold stL; split
    · exact hL
    · exact tn_lt hL
  refine lv_iload_n hx hb dX1_step_20 rfl (lv_at hl 0 rfl) ?_
  refine lv_iconst (v := (-1)) hx hb dX1_step_21 (by decide) ?_
  refine lv_icmp_eq (tgt := 29) hx hb dX1_step_22 (by decide) (fun c22 => ?_) (fun c22 => ?_)
  · skip
    have h49 : awZ nr nc pL pG pB = 4 := Classical.not_not.mp (fun z => by
      have h9 := ft_lt (L := pL) (K := pG) (B := pB) (show 0 < nr + nc by omega) (aw_pos hw6.1.1) (by omega)
      have c21 := c22
      unfold stV stF at c21; rw [if_neg z] at c21
      exact nI_ne1 (by omega) c21)
    refine lv_iconst (v := nI 0) hx hb dX1_step_29 (by decide) ?_
    have hP : va_P G.1 CL (cat [VTW G vh ph th svh hs9 ah bh lh rh fa9 rf9 de9, PW G ph pd nr nc pL pG pB pk pa pt pm, PW G th qd nr nc (stL nr nc pL pG pB) pG pB (stK nr nc pL pG pB pk) a1_5 t1_5 n1_5, PAW G ah pz ks ss]) _ := hP
    have hD : va_D A (cat [VTW G vh ph th svh hs9 ah bh lh rh fa9 rf9 de9, PW G ph pd nr nc pL pG pB pk pa pt pm, PW G th qd nr nc (stL nr nc pL pG pB) pG pB (stK nr nc pL pG pB pk) a1_5 t1_5 n1_5, PAW G ah pz ks ss]) := hD
    obtain ⟨hP, hD⟩ := cut_B (bs' := [VTW G vh ph th svh hs9 ah bh lh rh fa9 rf9 de9, PW G ph pd nr nc pL pG pB pk pa pt pm, PW G th qd nr nc (stL nr nc pL pG pB) pG pB (stK nr nc pL pG pB pk) a1_5 t1_5 n1_5, PAW G ah pz ks ss]) hP hD [0, 1, 2, 3] (by decide) rfl
    have hP : va_P G.1 CL (([] : va_W) ++ (VTW G vh ph th svh hs9 ah bh lh rh fa9 rf9 de9 ++ PW G ph pd nr nc pL pG pB pk pa pt pm ++ PW G th qd nr nc (stL nr nc pL pG pB) pG pB (stK nr nc pL pG pB pk) a1_5 t1_5 n1_5 ++ PAW G ah pz ks ss)) _ := hP
    have hD : va_D A (([] : va_W) ++ (VTW G vh ph th svh hs9 ah bh lh rh fa9 rf9 de9 ++ PW G ph pd nr nc pL pG pB pk pa pt pm ++ PW G th qd nr nc (stL nr nc pL pG pB) pG pB (stK nr nc pL pG pB pk) a1_5 t1_5 n1_5 ++ PAW G ah pz ks ss)) := hD
    refine callXSv (As := [.int (nI 0)]) (rest := []) (wc := ([] : va_W)) (wr := (VTW G vh ph th svh hs9 ah bh lh rh fa9 rf9 de9 ++ PW G ph pd nr nc pL pG pB pk pa pt pm ++ PW G th qd nr nc (stL nr nc pL pG pB) pG pB (stK nr nc pL pG pB pk) a1_5 t1_5 n1_5 ++ PAW G ah pz ks ss)) ⟨hx, hb, hml, hown, hts⟩ (m_X1_checkElement l G false (by first | assumption | omega)) (va_cwS 1 hts (lw_S q1348 q1349 q88 q1350) rfl rfl rfl (by decide +kernel) ⟨Nat.le_of_ble_eq_true rfl, Nat.le_of_ble_eq_true rfl⟩) hK hZ hA hP hD hS (ixC ([] : va_W)) (ixR ([] : va_W) (VTW G vh ph th svh hs9 ah bh lh rh fa9 rf9 de9 ++ PW G ph pd nr nc pL pG pB pk pa pt pm ++ PW G th qd nr nc (stL nr nc pL pG pB) pG pB (stK nr nc pL pG pB pk) a1_5 t1_5 n1_5 ++ PAW G ah pz ks ss)) ixC_ok ixR_ok ixC_nd ixR_nd ix_dis rfl hl.1 (Nat.le_of_ble_eq_true rfl) ⟨Nat.le_of_ble_eq_true rfl, Nat.le_of_ble_eq_true rfl⟩ rfl dX1_step_30 (fun ce9 q9 u9 H locs hw9 hP hD hS hce hcv hcl => ?_) (fun u9 H locs hw9 hP hD hS => ?_)
    · skip
      have hx30 : false = false := hw9
      rw [List.append_nil] at hP hD
      have hP : va_P G.1 CL (cat [VTW G vh ph th svh hs9 ah bh lh rh fa9 rf9 de9, PW G ph pd nr nc pL pG pB pk pa pt pm, PW G th qd nr nc (stL nr nc pL pG pB) pG pB (stK nr nc pL pG pB pk) a1_5 t1_5 n1_5, PAW G ah pz ks ss]) _ := hP
      have hD : va_D A (cat [VTW G vh ph th svh hs9 ah bh lh rh fa9 rf9 de9, PW G ph pd nr nc pL pG pB pk pa pt pm, PW G th qd nr nc (stL nr nc pL pG pB) pG pB (stK nr nc pL pG pB pk) a1_5 t1_5 n1_5, PAW G ah pz ks ss]) := hD
      obtain ⟨hP, hD⟩ := cut_B (bs' := [VTW G vh ph th svh hs9 ah bh lh rh fa9 rf9 de9, PW G ph pd nr nc pL pG pB pk pa pt pm, PW G th qd nr nc (stL nr nc pL pG pB) pG pB (stK nr nc pL pG pB pk) a1_5 t1_5 n1_5, PAW G ah pz ks ss]) hP hD [0, 1, 2, 3] (by decide) rfl
      have hP : va_P G.1 CL (VTW G vh ph th svh hs9 ah bh lh rh fa9 rf9 de9 ++ PW G ph pd nr nc pL pG pB pk pa pt pm ++ PW G th qd nr nc (stL nr nc pL pG pB) pG pB (stK nr nc pL pG pB pk) a1_5 t1_5 n1_5 ++ PAW G ah pz ks ss) _ := hP
      have hD : va_D A (VTW G vh ph th svh hs9 ah bh lh rh fa9 rf9 de9 ++ PW G ph pd nr nc pL pG pB pk pa pt pm ++ PW G th qd nr nc (stL nr nc pL pG pB) pG pB (stK nr nc pL pG pB pk) a1_5 t1_5 n1_5 ++ PAW G ah pz ks ss) := hD
      have hcl : s.vm.findClass RJ16 = some ce9.cls := hcl
      subst hQ
      rw [show (oStep (nr, nc, pL, pG, pB, pk)) = (2, (nr, nc, pL, pG, pB, pk), nI 0, none) from (by unfold oStep; rw [if_neg hw6.1.1, if_neg (by rw [hw6.1.2]; decide), if_pos (show awN (rchZ (nr, nc, pL, pG, pB, pk)) = 4 from h49)])]
      refine vx_widen (k := 5) (n := 37) (Nat.le_of_ble_eq_true rfl) (Nat.le_of_ble_eq_true rfl) ?_
      exact out_x (by rw [hnt]; decide) hlk ((nr, nc, (stL nr nc pL pG pB), pG, pB, (stK nr nc pL pG pB pk)), a1_5, t1_5, n1_5) ⟨(by decide : ¬ (2 : Nat) = 0), rfl, ⟨hstL, hG, hw6.2⟩⟩ hP hD hS hce hcv hcl (Nat.le_refl _) (Nat.le_refl _)
    refine W.widen (k := 4) (n := 31) (Nat.le_refl _) (Nat.le_refl _) ?_
    have hw30 : false = true := hw9
    rw [List.append_nil] at hP hD
    have hP : va_P G.1 CL (cat [VTW G vh ph th svh hs9 ah bh lh rh fa9 rf9 de9, PW G ph pd nr nc pL pG pB pk pa pt pm, PW G th qd nr nc (stL nr nc pL pG pB) pG pB (stK nr nc pL pG pB pk) a1_5 t1_5 n1_5, PAW G ah pz ks ss]) _ := hP
    have hD : va_D A (cat [VTW G vh ph th svh hs9 ah bh lh rh fa9 rf9 de9, PW G ph pd nr nc pL pG pB pk pa pt pm, PW G th qd nr nc (stL nr nc pL pG pB) pG pB (stK nr nc pL pG pB pk) a1_5 t1_5 n1_5, PAW G ah pz ks ss]) := hD
    obtain ⟨hP, hD⟩ := cut_B (bs' := [VTW G vh ph th svh hs9 ah bh lh rh fa9 rf9 de9, PW G ph pd nr nc pL pG pB pk pa pt pm, PW G th qd nr nc (stL nr nc pL pG pB) pG pB (stK nr nc pL pG pB pk) a1_5 t1_5 n1_5, PAW G ah pz ks ss]) hP hD [0, 1, 2, 3] (by decide) rfl
    have hP : va_P G.1 CL (VTW G vh ph th svh hs9 ah bh lh rh fa9 rf9 de9 ++ PW G ph pd nr nc pL pG pB pk pa pt pm ++ PW G th qd nr nc (stL nr nc pL pG pB) pG pB (stK nr nc pL pG pB pk) a1_5 t1_5 n1_5 ++ PAW G ah pz ks ss) _ := hP
    have hD : va_D A (VTW G vh ph th svh hs9 ah bh lh rh fa9 rf9 de9 ++ PW G ph pd nr nc pL pG pB pk pa pt pm ++ PW G th qd nr nc (stL nr nc pL pG pB) pG pB (stK nr nc pL pG pB pk) a1_5 t1_5 n1_5 ++ PAW G ah pz ks ss) := hD
    exact absurd hw30 (by decide)
  · skip
    have h49 : ¬ awZ nr nc pL pG pB = 4 := fun z => c22 (by unfold stV; rw [if_pos z])
    refine lv_iconst (v := nI 1) hx hb dX1_step_25 (by decide) ?_
    refine lv_goto (tgt := 30) hx hb dX1_step_26 (by decide) ?_
    have hP : va_P G.1 CL (cat [VTW G vh ph th svh hs9 ah bh lh rh fa9 rf9 de9, PW G ph pd nr nc pL pG pB pk pa pt pm, PW G th qd nr nc (stL nr nc pL pG pB) pG pB (stK nr nc pL pG pB pk) a1_5 t1_5 n1_5, PAW G ah pz ks ss]) _ := hP
    have hD : va_D A (cat [VTW G vh ph th svh hs9 ah bh lh rh fa9 rf9 de9, PW G ph pd nr nc pL pG pB pk pa pt pm, PW G th qd nr nc (stL nr nc pL pG pB) pG pB (stK nr nc pL pG pB pk) a1_5 t1_5 n1_5, PAW G ah pz ks ss]) := hD
    obtain ⟨hP, hD⟩ := cut_B (bs' := [VTW G vh ph th svh hs9 ah bh lh rh fa9 rf9 de9, PW G ph pd nr nc pL pG pB pk pa pt pm, PW G th qd nr nc (stL nr nc pL pG pB) pG pB (stK nr nc pL pG pB pk) a1_5 t1_5 n1_5, PAW G ah pz ks ss]) hP hD [0, 1, 2, 3] (by decide) rfl
    have hP : va_P G.1 CL (([] : va_W) ++ (VTW G vh ph th svh hs9 ah bh lh rh fa9 rf9 de9 ++ PW G ph pd nr nc pL pG pB pk pa pt pm ++ PW G th qd nr nc (stL nr nc pL pG pB) pG pB (stK nr nc pL pG pB pk) a1_5 t1_5 n1_5 ++ PAW G ah pz ks ss)) _ := hP
    have hD : va_D A (([] : va_W) ++ (VTW G vh ph th svh hs9 ah bh lh rh fa9 rf9 de9 ++ PW G ph pd nr nc pL pG pB pk pa pt pm ++ PW G th qd nr nc (stL nr nc pL pG pB) pG pB (stK nr nc pL pG pB pk) a1_5 t1_5 n1_5 ++ PAW G ah pz ks ss)) := hD
    refine callXSv (As := [.int (nI 1)]) (rest := []) (wc := ([] : va_W)) (wr := (VTW G vh ph th svh hs9 ah bh lh rh fa9 rf9 de9 ++ PW G ph pd nr nc pL pG pB pk pa pt pm ++ PW G th qd nr nc (stL nr nc pL pG pB) pG pB (stK nr nc pL pG pB pk) a1_5 t1_5 n1_5 ++ PAW G ah pz ks ss)) ⟨hx, hb, hml, hown, hts⟩ (m_X1_checkElement l G true (by first | assumption | omega)) (va_cwS 1 hts (lw_S q1348 q1349 q88 q1350) rfl rfl rfl (by decide +kernel) ⟨Nat.le_of_ble_eq_true rfl, Nat.le_of_ble_eq_true rfl⟩) hK hZ hA hP hD hS (ixC ([] : va_W)) (ixR ([] : va_W) (VTW G vh ph th svh hs9 ah bh lh rh fa9 rf9 de9 ++ PW G ph pd nr nc pL pG pB pk pa pt pm ++ PW G th qd nr nc (stL nr nc pL pG pB) pG pB (stK nr nc pL pG pB pk) a1_5 t1_5 n1_5 ++ PAW G ah pz ks ss)) ixC_ok ixR_ok ixC_nd ixR_nd ix_dis rfl hl.1 (Nat.le_of_ble_eq_true rfl) ⟨Nat.le_of_ble_eq_true rfl, Nat.le_of_ble_eq_true rfl⟩ rfl dX1_step_30 (fun ce9 q9 u9 H locs hw9 hP hD hS hce hcv hcl => ?_) (fun u9 H locs hw9 hP hD hS => ?_)
    · skip
      have hx30 : true = false := hw9
      rw [List.append_nil] at hP hD
      have hP : va_P G.1 CL (cat [VTW G vh ph th svh hs9 ah bh lh rh fa9 rf9 de9, PW G ph pd nr nc pL pG pB pk pa pt pm, PW G th qd nr nc (stL nr nc pL pG pB) pG pB (stK nr nc pL pG pB pk) a1_5 t1_5 n1_5, PAW G ah pz ks ss]) _ := hP
      have hD : va_D A (cat [VTW G vh ph th svh hs9 ah bh lh rh fa9 rf9 de9, PW G ph pd nr nc pL pG pB pk pa pt pm, PW G th qd nr nc (stL nr nc pL pG pB) pG pB (stK nr nc pL pG pB pk) a1_5 t1_5 n1_5, PAW G ah pz ks ss]) := hD
      obtain ⟨hP, hD⟩ := cut_B (bs' := [VTW G vh ph th svh hs9 ah bh lh rh fa9 rf9 de9, PW G ph pd nr nc pL pG pB pk pa pt pm, PW G th qd nr nc (stL nr nc pL pG pB) pG pB (stK nr nc pL pG pB pk) a1_5 t1_5 n1_5, PAW G ah pz ks ss]) hP hD [0, 1, 2, 3] (by decide) rfl
      have hP : va_P G.1 CL (VTW G vh ph th svh hs9 ah bh lh rh fa9 rf9 de9 ++ PW G ph pd nr nc pL pG pB pk pa pt pm ++ PW G th qd nr nc (stL nr nc pL pG pB) pG pB (stK nr nc pL pG pB pk) a1_5 t1_5 n1_5 ++ PAW G ah pz ks ss) _ := hP
      have hD : va_D A (VTW G vh ph th svh hs9 ah bh lh rh fa9 rf9 de9 ++ PW G ph pd nr nc pL pG pB pk pa pt pm ++ PW G th qd nr nc (stL nr nc pL pG pB) pG pB (stK nr nc pL pG pB pk) a1_5 t1_5 n1_5 ++ PAW G ah pz ks ss) := hD
      exact absurd hx30 (by decide)
    refine W.widen (k := 4) (n := 31) (Nat.le_refl _) (Nat.le_refl _) ?_
    have hw30 : true = true := hw9
    rw [List.append_nil] at hP hD
    have hP : va_P G.1 CL (cat [VTW G vh ph th svh hs9 ah bh lh rh fa9 rf9 de9, PW G ph pd nr nc pL pG pB pk pa pt pm, PW G th qd nr nc (stL nr nc pL pG pB) pG pB (stK nr nc pL pG pB pk) a1_5 t1_5 n1_5, PAW G ah pz ks ss]) _ := hP
    have hD : va_D A (cat [VTW G vh ph th svh hs9 ah bh lh rh fa9 rf9 de9, PW G ph pd nr nc pL pG pB pk pa pt pm, PW G th qd nr nc (stL nr nc pL pG pB) pG pB (stK nr nc pL pG pB pk) a1_5 t1_5 n1_5, PAW G ah pz ks ss]) := hD
    obtain ⟨hP, hD⟩ := cut_B (bs' := [VTW G vh ph th svh hs9 ah bh lh rh fa9 rf9 de9, PW G ph pd nr nc pL pG pB pk pa pt pm, PW G th qd nr nc (stL nr nc pL pG pB) pG pB (stK nr nc pL pG pB pk) a1_5 t1_5 n1_5, PAW G ah pz ks ss]) hP hD [0, 1, 2, 3] (by decide) rfl
    have hP : va_P G.1 CL (VTW G vh ph th svh hs9 ah bh lh rh fa9 rf9 de9 ++ PW G ph pd nr nc pL pG pB pk pa pt pm ++ PW G th qd nr nc (stL nr nc pL pG pB) pG pB (stK nr nc pL pG pB pk) a1_5 t1_5 n1_5 ++ PAW G ah pz ks ss) _ := hP
    have hD : va_D A (VTW G vh ph th svh hs9 ah bh lh rh fa9 rf9 de9 ++ PW G ph pd nr nc pL pG pB pk pa pt pm ++ PW G th qd nr nc (stL nr nc pL pG pB) pG pB (stK nr nc pL pG pB pk) a1_5 t1_5 n1_5 ++ PAW G ah pz ks ss) := hD
    refine lv_aload_n hx hb dX1_step_33 rfl (lv_at hl 1 rfl) ?_
    refine lv_iload_n hx hb dX1_step_34 rfl (lv_at hl 0 rfl) ?_
    have hP : va_P G.1 CL (cat [VTW G vh ph th svh hs9 ah bh lh rh fa9 rf9 de9, PW G ph pd nr nc pL pG pB pk pa pt pm, PW G th qd nr nc (stL nr nc pL pG pB) pG pB (stK nr nc pL pG pB pk) a1_5 t1_5 n1_5, PAW G ah pz ks ss]) _ := hP
    have hD : va_D A (cat [VTW G vh ph th svh hs9 ah bh lh rh fa9 rf9 de9, PW G ph pd nr nc pL pG pB pk pa pt pm, PW G th qd nr nc (stL nr nc pL pG pB) pG pB (stK nr nc pL pG pB pk) a1_5 t1_5 n1_5, PAW G ah pz ks ss]) := hD
    obtain ⟨hP, hD⟩ := cut_B (bs' := [VTW G vh ph th svh hs9 ah bh lh rh fa9 rf9 de9, PW G ph pd nr nc pL pG pB pk pa pt pm, PW G th qd nr nc (stL nr nc pL pG pB) pG pB (stK nr nc pL pG pB pk) a1_5 t1_5 n1_5, PAW G ah pz ks ss]) hP hD [0, 1, 2, 3] (by decide) rfl
    have hP : va_P G.1 CL (VTW G vh ph th svh hs9 ah bh lh rh fa9 rf9 de9 ++ PW G ph pd nr nc pL pG pB pk pa pt pm ++ PW G th qd nr nc (stL nr nc pL pG pB) pG pB (stK nr nc pL pG pB pk) a1_5 t1_5 n1_5 ++ PAW G ah pz ks ss) _ := hP
    have hD : va_D A (VTW G vh ph th svh hs9 ah bh lh rh fa9 rf9 de9 ++ PW G ph pd nr nc pL pG pB pk pa pt pm ++ PW G th qd nr nc (stL nr nc pL pG pB) pG pB (stK nr nc pL pG pB pk) a1_5 t1_5 n1_5 ++ PAW G ah pz ks ss) := hD
    rw [← List.append_nil (VTW G vh ph th svh hs9 ah bh lh rh fa9 rf9 de9 ++ PW G ph pd nr nc pL pG pB pk pa pt pm ++ PW G th qd nr nc (stL nr nc pL pG pB) pG pB (stK nr nc pL pG pB pk) a1_5 t1_5 n1_5 ++ PAW G ah pz ks ss)] at hP hD
    refine callVi (As := [.int (stV nr nc pL pG pB)]) (rest := []) (wc := (VTW G vh ph th svh hs9 ah bh lh rh fa9 rf9 de9 ++ PW G ph pd nr nc pL pG pB pk pa pt pm ++ PW G th qd nr nc (stL nr nc pL pG pB) pG pB (stK nr nc pL pG pB pk) a1_5 t1_5 n1_5 ++ PAW G ah pz ks ss)) (wr := ([] : va_W)) ⟨hx, hb, hml, hown, hts⟩ (m_X1_becomes l G vh ph th svh hs9 ah bh lh rh fa9 rf9 de9 pd nr nc pL pG pB pk pa pt pm qd nr nc (stL nr nc pL pG pB) pG pB (stK nr nc pL pG pB pk) a1_5 t1_5 n1_5 pz ks ss (stV nr nc pL pG pB) (by first | assumption | omega) (by first | assumption | omega) hstL hG (by first | assumption | omega) (by first | assumption | omega)) (cwV 1 hts (lw_V q1132 q1134 qs17 q88 q1135) rfl rfl rfl (by decide +kernel) ⟨Nat.le_of_ble_eq_true rfl, Nat.le_of_ble_eq_true rfl⟩) hK hZ hA hP hD hS (ixC (VTW G vh ph th svh hs9 ah bh lh rh fa9 rf9 de9 ++ PW G ph pd nr nc pL pG pB pk pa pt pm ++ PW G th qd nr nc (stL nr nc pL pG pB) pG pB (stK nr nc pL pG pB pk) a1_5 t1_5 n1_5 ++ PAW G ah pz ks ss)) (ixR (VTW G vh ph th svh hs9 ah bh lh rh fa9 rf9 de9 ++ PW G ph pd nr nc pL pG pB pk pa pt pm ++ PW G th qd nr nc (stL nr nc pL pG pB) pG pB (stK nr nc pL pG pB pk) a1_5 t1_5 n1_5 ++ PAW G ah pz ks ss) ([] : va_W)) ixC_ok ixR_ok ixC_nd ixR_nd ix_dis 0 0 rfl rfl rfl hl.1 (Nat.le_of_ble_eq_true rfl) ⟨Nat.le_of_ble_eq_true rfl, Nat.le_of_ble_eq_true rfl⟩ rfl dX1_step_35 (fun r9 u9 H locs hw9 hP hD hS => ?_)
    obtain ⟨pz2_10, ks2_10, ss2_10⟩ := u9
    obtain ⟨hr9, hw35⟩ := hw9
    subst hr9
    have hw35 : PAh pz2_10 ks2_10 ss2_10 ∧ ks2_10.length + ss2_10.length = 8 ∧ psz ks2_10 = pushH (psz ks) (nr, nc, pL, pG, pB, pk) := hw35
    have hP : va_P G.1 CL (cat [VTW G vh ph th svh hs9 ah bh lh rh fa9 rf9 de9, PW G ph pd nr nc (stL nr nc pL pG pB) pG pB (stK nr nc pL pG pB pk) pa pt pm, PW G th qd nr nc (stL nr nc pL pG pB) pG pB (stK nr nc pL pG pB pk) a1_5 t1_5 n1_5, PAW G ah pz2_10 ks2_10 ss2_10]) _ := hP
    have hD : va_D A (cat [VTW G vh ph th svh hs9 ah bh lh rh fa9 rf9 de9, PW G ph pd nr nc (stL nr nc pL pG pB) pG pB (stK nr nc pL pG pB pk) pa pt pm, PW G th qd nr nc (stL nr nc pL pG pB) pG pB (stK nr nc pL pG pB pk) a1_5 t1_5 n1_5, PAW G ah pz2_10 ks2_10 ss2_10]) := hD
    obtain ⟨hP, hD⟩ := cut_B (bs' := [VTW G vh ph th svh hs9 ah bh lh rh fa9 rf9 de9, PW G ph pd nr nc (stL nr nc pL pG pB) pG pB (stK nr nc pL pG pB pk) pa pt pm, PW G th qd nr nc (stL nr nc pL pG pB) pG pB (stK nr nc pL pG pB pk) a1_5 t1_5 n1_5, PAW G ah pz2_10 ks2_10 ss2_10]) hP hD [0, 1, 2, 3] (by decide) rfl
    have hP : va_P G.1 CL (VTW G vh ph th svh hs9 ah bh lh rh fa9 rf9 de9 ++ PW G ph pd nr nc (stL nr nc pL pG pB) pG pB (stK nr nc pL pG pB pk) pa pt pm ++ PW G th qd nr nc (stL nr nc pL pG pB) pG pB (stK nr nc pL pG pB pk) a1_5 t1_5 n1_5 ++ PAW G ah pz2_10 ks2_10 ss2_10) _ := hP
    have hD : va_D A (VTW G vh ph th svh hs9 ah bh lh rh fa9 rf9 de9 ++ PW G ph pd nr nc (stL nr nc pL pG pB) pG pB (stK nr nc pL pG pB pk) pa pt pm ++ PW G th qd nr nc (stL nr nc pL pG pB) pG pB (stK nr nc pL pG pB pk) a1_5 t1_5 n1_5 ++ PAW G ah pz2_10 ks2_10 ss2_10) := hD
    subst hQ
    rw [show (oStep (nr, nc, pL, pG, pB, pk)) = (0, (nr, nc, (stL nr nc pL pG pB), pG, pB, (stK nr nc pL pG pB pk)), (stV nr nc pL pG pB), none) from (by unfold oStep stL stK stV; rw [if_neg hw6.1.1, if_neg (by rw [hw6.1.2]; decide), if_neg (show ¬ awN (rchZ (nr, nc, pL, pG, pB, pk)) = 4 from h49), if_neg h49, if_neg h49, if_neg h49]; rfl)]
    refine W.widen (k := 5) (n := 37) (Nat.le_of_ble_eq_true rfl) (Nat.le_of_ble_eq_true rfl) ?_
    refine vx_ret ?_
    exact ret_i hx hb hr hlk (⟨pz2_10, ks2_10, ss2_10, ((nr, nc, (stL nr nc pL pG pB), pG, pB, (stK nr nc pL pG pB pk)), a1_5, t1_5, n1_5)⟩) ⟨rfl, ⟨rfl, ⟨hstL, hG, hw6.2⟩, hw35⟩⟩ hP hD hS rfl dX1_step_38
