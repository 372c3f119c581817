theorem sm_vws {nr nc : Nat} {L : Nat → Nat} (hd : 2 ≤ nr ∧ nr ≤ 3 ∧ 2 ≤ nc ∧ nc ≤ 3) : sm (vwsN nr nc L) nr = cn (fun k => vw (L k)) (nr * nc) := by
  obtain ⟨h1, h2, h3, h4⟩ := hd
  rcases (show nr = 2 ∨ nr = 3 by omega) with rfl | rfl <;> rcases (show nc = 2 ∨ nc = 3 by omega) with rfl | rfl <;> simp only [sm, vwsN, szOf, plOn, cn, Nat.reduceMul, Nat.reduceAdd, Nat.reduceLT, if_true, Nat.zero_add, Nat.zero_mul, Nat.one_mul] <;> omega
theorem bo1_t {w : Int32} (h : decide (nI 0 ≤ w ∧ w ≤ nI 6) = true) : bo1 w = nI 0 := by
  obtain ⟨k, -, hk, rfl⟩ := inR_nI h (by decide) (by decide)
  rcases (show k = 0 ∨ k = 1 ∨ k = 2 ∨ k = 3 ∨ k = 4 ∨ k = 5 ∨ k = 6 by omega) with rfl | rfl | rfl | rfl | rfl | rfl | rfl <;> rfl
theorem bo1_f {w : Int32} (h : decide (nI 0 ≤ w ∧ w ≤ nI 6) = false) : bo1 w = nI 1 := by
  unfold bo1
  rw [if_neg]
  intro z
  rcases z with rfl | rfl | rfl | rfl | rfl | rfl | rfl <;> exact absurd h (by decide)
theorem ac1_t {w : Int32} (h : decide (nI 0 ≤ w ∧ w ≤ nI 9) = true) : ac1 w = nI 0 := by
  obtain ⟨k, -, hk, rfl⟩ := inR_nI h (by decide) (by decide)
  rcases (show k = 0 ∨ k = 1 ∨ k = 2 ∨ k = 3 ∨ k = 4 ∨ k = 5 ∨ k = 6 ∨ k = 7 ∨ k = 8 ∨ k = 9 by omega) with rfl | rfl | rfl | rfl | rfl | rfl | rfl | rfl | rfl | rfl <;> rfl
theorem ac1_f {w : Int32} (h : decide (nI 0 ≤ w ∧ w ≤ nI 9) = false) : ac1 w = nI 1 := by
  unfold ac1
  rw [if_neg]
  intro z
  rcases z with rfl | rfl | rfl | rfl | rfl | rfl | rfl | rfl | rfl | rfl <;> exact absurd h (by decide)
theorem lastK {w : Int32} {n : Nat} (hn : n < 100) (h : decide (nI 0 ≤ w ∧ w ≤ nI n) = true) (hx : ∀ k, k < n → ¬ w = nI k) : w = nI n := by
  obtain ⟨k, -, hk, rfl⟩ := inR_nI h (by omega) (by omega)
  rcases Nat.lt_or_eq_of_le hk with h9 | h9
  · exact absurd rfl (hx k h9)
  · rw [h9]
theorem below6 {w : Int32} (h0 : ¬ w = nI 0) (h1 : ¬ w = nI 1) (h2 : ¬ w = nI 2) (h3 : ¬ w = nI 3) (h4 : ¬ w = nI 4) (h5 : ¬ w = nI 5) : ∀ k, k < 6 → ¬ w = nI k := fun k hk => by
  rcases (show k = 0 ∨ k = 1 ∨ k = 2 ∨ k = 3 ∨ k = 4 ∨ k = 5 by omega) with rfl | rfl | rfl | rfl | rfl | rfl <;> assumption
theorem below9 {w : Int32} (h0 : ¬ w = nI 0) (h1 : ¬ w = nI 1) (h2 : ¬ w = nI 2) (h3 : ¬ w = nI 3) (h4 : ¬ w = nI 4) (h5 : ¬ w = nI 5) (h6 : ¬ w = nI 6) (h7 : ¬ w = nI 7) (h8 : ¬ w = nI 8) : ∀ k, k < 9 → ¬ w = nI k := fun k hk => by
  rcases (show k = 0 ∨ k = 1 ∨ k = 2 ∨ k = 3 ∨ k = 4 ∨ k = 5 ∨ k = 6 ∨ k = 7 ∨ k = 8 by omega) with rfl | rfl | rfl | rfl | rfl | rfl | rfl | rfl | rfl <;> assumption
set_option maxHeartbeats 4000000 in
set_option maxRecDepth 100000 in
theorem m_X1_ranked (l : Launch) (G : GG) (vh : Nat) (ph : Nat) (th : Nat) (svh : Nat) (hs9 : Bool) (ah : Nat) (bh : Nat) (lh : Nat) (rh : Nat) (fa9 : Int32) (rf9 : Int32) (de9 : Int32) (pd : Nat → Nat) (nr : Nat) (nc : Nat) (pL : Nat → Nat) (pG : Nat → Nat) (pB : Nat → Bool) (pk : Nat → Int32) (pa : Nat → Nat) (pt : Nat → Nat) (pm : Nat) (pa0 : Int32) (hd : 2 ≤ nr ∧ nr ≤ 3 ∧ 2 ≤ nc ∧ nc ≤ 3) (hL : ∀ i, pL i < 65536) (hIC : ICok G) (hst : l.stackTraces = false) : MX l G yX1_ranked cX1_ranked 3 (some .int) ⟨7, 12, 56, 3075⟩ [.ref vh, .int pa0] (VTW G vh ph th svh hs9 ah bh lh rh fa9 rf9 de9 ++ PW G ph pd nr nc pL pG pB pk pa pt pm) (Qi_ G (fun (r : Int32) (_ : Unit) => (r = nI (rkN nr nc pL pa0)) ∧ ((rkN nr nc pL pa0) < nr + nc)) (fun (_ : Unit) => (VTW G vh ph th svh hs9 ah bh lh rh fa9 rf9 de9 ++ PW G ph pd nr nc pL pG pB pk pa pt pm))) (XQ G (fun (_ : Unit) => RJ16) (fun (_ : Unit) => ¬ (rkN nr nc pL pa0) < nr + nc) (fun (q9 : Nat) (_ : Unit) => (VTW G vh ph th svh hs9 ah bh lh rh fa9 rf9 de9 ++ PW G ph pd nr nc pL pG pB pk pa pt pm))) := by
  refine MX.ofN (by decide) (Nat.le_of_ble_eq_true rfl) ?_
  intro p e s m args below meth cd A C hnm hini hA hK hZ hP hD hnt ls hl
  generalize hQ : vx_MQ below ((Qi_ G (fun (r : Int32) (_ : Unit) => (r = nI (rkN nr nc pL pa0)) ∧ ((rkN nr nc pL pa0) < nr + nc)) (fun (_ : Unit) => (VTW G vh ph th svh hs9 ah bh lh rh fa9 rf9 de9 ++ PW G ph pd nr nc pL pG pB pk pa pt pm))) A) ((XQ G (fun (_ : Unit) => RJ16) (fun (_ : Unit) => ¬ (rkN nr nc pL pa0) < nr + nc) (fun (q9 : Nat) (_ : Unit) => (VTW G vh ph th svh hs9 ah bh lh rh fa9 rf9 de9 ++ PW G ph pd nr nc pL pG pB pk pa pt pm))) A) args s (⟨7, 12, 56, 3075⟩ : Room).cells (⟨7, 12, 56, 3075⟩ : Room).slots A = Q
  obtain ⟨hx, hb, hr, hts, hown, hlk, hml⟩ := C
  have hown : s.vm.findClass RX1 = some m.cls := hown
  have hS : va_S A s.heap s.heap [] := va_S.rf
  have hl : lv_has ls 3 [(0, .ref vh), (1, .int pa0)] := hl
  have hmu := dm_mul hd
  refine lv_aload_n hx hb dX1_ranked_0 rfl (lv_at hl 0 rfl) ?_
  refine callVr (As := []) (rest := []) (wc := (VTW G vh ph th svh hs9 ah bh lh rh fa9 rf9 de9 ++ PW G ph pd nr nc pL pG pB pk pa pt pm)) (wr := ([] : va_W)) ⟨hx, hb, hml, hown, hts⟩ (m_X1_allLines l G vh ph th svh hs9 ah bh lh rh fa9 rf9 de9 pd nr nc pL pG pB pk pa pt pm (by first | assumption | omega) (by first | assumption | omega)) (cwV 0 hts (lw_V q524 q526 qs6 q88 q527) rfl rfl rfl (by decide +kernel) ⟨Nat.le_of_ble_eq_true rfl, Nat.le_of_ble_eq_true rfl⟩) hK hZ hA hP hD hS [0, 1, 2, 3, 4, 5, 6] [] rfl rfl (by decide) (by decide) (by decide) 0 0 rfl rfl rfl hl.1 (Nat.le_of_ble_eq_true rfl) ⟨Nat.le_of_ble_eq_true rfl, Nat.le_of_ble_eq_true rfl⟩ rfl dX1_ranked_1 (fun r9 u9 H locs hw9 hP hD hS => ?_)
  refine W.widen (k := 3) (n := 21) (Nat.le_refl _) (Nat.le_refl _) ?_
  obtain ⟨dh2_1, z2_1⟩ := u9
  have hw1 : DQh z2_1 (bxs G (nr + nc)) := hw9
  obtain ⟨r_1, e8⟩ : ∃ z, z = r9 := ⟨_, rfl⟩
  subst e8
  have hP : va_P G.1 CL (VTW G vh ph th svh hs9 ah bh lh rh fa9 rf9 de9 ++ PW G ph pd nr nc pL pG pB pk pa pt pm ++ RWW G r_1 dh2_1 ++ DQB G dh2_1 z2_1) _ := hP
  have hD : va_D A (VTW G vh ph th svh hs9 ah bh lh rh fa9 rf9 de9 ++ PW G ph pd nr nc pL pG pB pk pa pt pm ++ RWW G r_1 dh2_1 ++ DQB G dh2_1 z2_1) := hD
  refine lv_iload_n hx hb dX1_ranked_4 rfl (lv_at hl 1 rfl) ?_
  refine lv_aload_n hx hb dX1_ranked_5 rfl (lv_at hl 0 rfl) ?_
  obtain ⟨cK3, hcK3⟩ := hZ.lam (y := yX1_ranked) (pc := 6) (idx := 276) (σ := sh3) (by decide +kernel) (by decide)
  refine mk_lam ok3 rfl hcK3 rfl hx hb hnm hZ hP hD hS hA (by rw [hml]; exact hl.1) (Nat.le_of_ble_eq_true rfl) (Nat.le_of_ble_eq_true rfl) (Nat.le_of_ble_eq_true rfl) dX1_ranked_6 (fun q2 H hP hD hS => ?_)
  refine W.widen (k := 4) (n := 22) (Nat.le_refl _) (Nat.le_refl _) ?_
  have hP : va_P G.1 CL (VTW G vh ph th svh hs9 ah bh lh rh fa9 rf9 de9 ++ PW G ph pd nr nc pL pG pB pk pa pt pm ++ RWW G r_1 dh2_1 ++ DQB G dh2_1 z2_1 ++ LMW G q2 cK3 vh) _ := hP
  have hD : va_D A (VTW G vh ph th svh hs9 ah bh lh rh fa9 rf9 de9 ++ PW G ph pd nr nc pL pG pB pk pa pt pm ++ RWW G r_1 dh2_1 ++ DQB G dh2_1 z2_1 ++ LMW G q2 cK3 vh) := hD
  refine callVq (As := [.int pa0, .ref q2]) (rest := []) (wc := (RWW G r_1 dh2_1 ++ DQB G dh2_1 z2_1 ++ LMW G q2 cK3 vh ++ VTW G vh ph th svh hs9 ah bh lh rh fa9 rf9 de9 ++ PW G ph pd nr nc pL pG pB pk pa pt pm)) (wr := ([] : va_W)) ⟨hx, hb, hml, hown, hts⟩ (m_X7_ranked l G r_1 dh2_1 z2_1 q2 cK3 vh ph th svh hs9 ah bh lh rh fa9 rf9 de9 pd nr nc pL pG pB pk pa pt pm pa0 (by first | assumption | omega) (by first | assumption | omega) hw1 (by first | assumption | omega) hcK3) (cwV 2 hts (lw_V q1483 q1484 q1485 q112 q1486) rfl rfl rfl (by decide +kernel) ⟨Nat.le_of_ble_eq_true rfl, Nat.le_of_ble_eq_true rfl⟩) hK hZ hA hP hD hS [7, 8, 9, 10, 0, 1, 2, 3, 4, 5, 6] [] rfl rfl (by decide) (by decide) (by decide) 0 6 rfl rfl rfl hl.1 (Nat.le_of_ble_eq_true rfl) ⟨Nat.le_of_ble_eq_true rfl, Nat.le_of_ble_eq_true rfl⟩ rfl dX1_ranked_11 (fun r9 u9 H locs hw9 hP hD hS => ?_)
  refine W.widen (k := 11) (n := 50) (Nat.le_refl _) (Nat.le_refl _) ?_
  subst hw9
  obtain ⟨hP, hD⟩ := re_PD (w := (VTW G vh ph th svh hs9 ah bh lh rh fa9 rf9 de9 ++ PW G ph pd nr nc pL pG pB pk pa pt pm ++ RWW G r_1 dh2_1 ++ DQB G dh2_1 z2_1 ++ LMW G q2 cK3 vh)) hP hD [4, 5, 6, 7, 8, 9, 10, 0, 1, 2, 3] (by decide) rfl
  by_cases hfx : (rkN nr nc pL pa0) < nr + nc
  · skip
    refine eq_v (y := .ref (icA G ((rkN nr nc pL pa0) + 128))) (by rw [if_pos hfx]; rfl) ?_
    refine va_castS hx hb hown (hts _ q1495) (hK.1 11 _ rfl).2 (by obtain ⟨cell9, g1, g2, g3, -⟩ := ((hZ.ic hIC).kept (fun a ha hna => hS.2.1 a ha hna)).1 ((rkN nr nc pL pa0) + 128) (by omega); exact ⟨cell9, g1, g2, g3⟩) dX1_ranked_14 ?_
    refine lv_astore_n (lv' := [(2, .ref (icA G ((rkN nr nc pL pa0) + 128))), (0, .ref vh), (1, .int pa0)]) hx hb dX1_ranked_17 rfl hl (by decide) rfl (fun ls hl => ?_)
    refine lv_aload_n hx hb dX1_ranked_18 rfl (lv_at hl 0 rfl) ?_
    refine lv_ifnull hx hb dX1_ranked_19 ?_
    refine lv_iconst (v := nI 1) hx hb dX1_ranked_22 (by decide) ?_
    refine lv_goto (tgt := 27) hx hb dX1_ranked_23 (by decide) ?_
    refine callXSv (As := [.int (nI 1)]) (rest := []) (wc := ([] : va_W)) (wr := (VTW G vh ph th svh hs9 ah bh lh rh fa9 rf9 de9 ++ PW G ph pd nr nc pL pG pB pk pa pt pm ++ RWW G r_1 dh2_1 ++ DQB G dh2_1 z2_1 ++ LMW G q2 cK3 vh)) ⟨hx, hb, hml, hown, hts⟩ (m_X1_checkElement l G true (by first | assumption | omega)) (va_cwS 1 hts (lw_S q1348 q1349 q88 q1350) rfl rfl rfl (by decide +kernel) ⟨Nat.le_of_ble_eq_true rfl, Nat.le_of_ble_eq_true rfl⟩) hK hZ hA hP hD hS [] [0, 1, 2, 3, 4, 5, 6, 7, 8, 9, 10] rfl rfl (by decide) (by decide) (by decide) rfl hl.1 (Nat.le_of_ble_eq_true rfl) ⟨Nat.le_of_ble_eq_true rfl, Nat.le_of_ble_eq_true rfl⟩ rfl dX1_ranked_27 (fun ce9 q9 u9 H locs hw9 hP hD hS hce hcv hcl => ?_) (fun u9 H locs hw9 hP hD hS => ?_)
    · skip
      have hx27 : true = false := hw9
      have hP : va_P G.1 CL (VTW G vh ph th svh hs9 ah bh lh rh fa9 rf9 de9 ++ PW G ph pd nr nc pL pG pB pk pa pt pm ++ RWW G r_1 dh2_1 ++ DQB G dh2_1 z2_1 ++ LMW G q2 cK3 vh) _ := hP
      have hD : va_D A (VTW G vh ph th svh hs9 ah bh lh rh fa9 rf9 de9 ++ PW G ph pd nr nc pL pG pB pk pa pt pm ++ RWW G r_1 dh2_1 ++ DQB G dh2_1 z2_1 ++ LMW G q2 cK3 vh) := hD
      exact absurd hx27 (by decide)
    refine W.widen (k := 12) (n := 56) (Nat.le_refl _) (Nat.le_refl _) ?_
    have hw27 : true = true := hw9
    have hP : va_P G.1 CL (VTW G vh ph th svh hs9 ah bh lh rh fa9 rf9 de9 ++ PW G ph pd nr nc pL pG pB pk pa pt pm ++ RWW G r_1 dh2_1 ++ DQB G dh2_1 z2_1 ++ LMW G q2 cK3 vh) _ := hP
    have hD : va_D A (VTW G vh ph th svh hs9 ah bh lh rh fa9 rf9 de9 ++ PW G ph pd nr nc pL pG pB pk pa pt pm ++ RWW G r_1 dh2_1 ++ DQB G dh2_1 z2_1 ++ LMW G q2 cK3 vh) := hD
    refine lv_aload_n hx hb dX1_ranked_30 rfl (lv_at hl 0 rfl) ?_
    refine callVJi (As := []) (rest := []) (wr := (VTW G vh ph th svh hs9 ah bh lh rh fa9 rf9 de9 ++ PW G ph pd nr nc pL pG pB pk pa pt pm ++ RWW G r_1 dh2_1 ++ DQB G dh2_1 z2_1 ++ LMW G q2 cK3 vh)) ⟨hx, hb, hml, hown, hts⟩ hIC (j := (rkN nr nc pL pa0) + 128) (by omega) (m_J18_intValue l G (rkN nr nc pL pa0) (by omega) hIC) (cwV 0 hts (lw_V q572 q573 q574 q114 q575) rfl rfl rfl (by decide +kernel) ⟨Nat.le_of_ble_eq_true rfl, Nat.le_of_ble_eq_true rfl⟩) hK hZ hA hP hD hS rfl hl.1 (Nat.le_of_ble_eq_true rfl) ⟨Nat.le_of_ble_eq_true rfl, Nat.le_of_ble_eq_true rfl⟩ rfl dX1_ranked_31 (fun r9 u9 H locs hw9 hP hD hS => ?_)
    subst hw9
    obtain ⟨hP, hD⟩ := re_PD (w := (VTW G vh ph th svh hs9 ah bh lh rh fa9 rf9 de9 ++ PW G ph pd nr nc pL pG pB pk pa pt pm)) hP hD [0, 1, 2, 3, 4, 5, 6] (by decide) rfl
    subst hQ
    refine vx_ret ?_
    exact ret_i hx hb hr hlk () ⟨rfl, hfx⟩ hP hD hS rfl dX1_ranked_34
  · skip
    refine eq_v (y := .null) (by rw [if_neg hfx]; rfl) ?_
    refine lv_castN hx hb dX1_ranked_14 ?_
    refine lv_astore_nN (lv' := [(2, .null), (0, .ref vh), (1, .int pa0)]) hx hb dX1_ranked_17 rfl hl (by decide) rfl (fun ls hl => ?_)
    refine lv_aload_nN hx hb dX1_ranked_18 rfl (lv_at hl 0 rfl) ?_
    refine lv_ifnullN (tgt := 26) hx hb dX1_ranked_19 (by decide) ?_
    refine lv_iconst (v := nI 0) hx hb dX1_ranked_26 (by decide) ?_
    refine callXSv (As := [.int (nI 0)]) (rest := []) (wc := ([] : va_W)) (wr := (VTW G vh ph th svh hs9 ah bh lh rh fa9 rf9 de9 ++ PW G ph pd nr nc pL pG pB pk pa pt pm ++ RWW G r_1 dh2_1 ++ DQB G dh2_1 z2_1 ++ LMW G q2 cK3 vh)) ⟨hx, hb, hml, hown, hts⟩ (m_X1_checkElement l G false (by first | assumption | omega)) (va_cwS 1 hts (lw_S q1348 q1349 q88 q1350) rfl rfl rfl (by decide +kernel) ⟨Nat.le_of_ble_eq_true rfl, Nat.le_of_ble_eq_true rfl⟩) hK hZ hA hP hD hS [] [0, 1, 2, 3, 4, 5, 6, 7, 8, 9, 10] rfl rfl (by decide) (by decide) (by decide) rfl hl.1 (Nat.le_of_ble_eq_true rfl) ⟨Nat.le_of_ble_eq_true rfl, Nat.le_of_ble_eq_true rfl⟩ rfl dX1_ranked_27 (fun ce9 q9 u9 H locs hw9 hP hD hS hce hcv hcl => ?_) (fun u9 H locs hw9 hP hD hS => ?_)
    · skip
      have hx27 : false = false := hw9
      have hP : va_P G.1 CL (VTW G vh ph th svh hs9 ah bh lh rh fa9 rf9 de9 ++ PW G ph pd nr nc pL pG pB pk pa pt pm ++ RWW G r_1 dh2_1 ++ DQB G dh2_1 z2_1 ++ LMW G q2 cK3 vh) _ := hP
      have hD : va_D A (VTW G vh ph th svh hs9 ah bh lh rh fa9 rf9 de9 ++ PW G ph pd nr nc pL pG pB pk pa pt pm ++ RWW G r_1 dh2_1 ++ DQB G dh2_1 z2_1 ++ LMW G q2 cK3 vh) := hD
      have hcl : s.vm.findClass RJ16 = some ce9.cls := hcl
      obtain ⟨hP, hD⟩ := re_PD (w := (VTW G vh ph th svh hs9 ah bh lh rh fa9 rf9 de9 ++ PW G ph pd nr nc pL pG pB pk pa pt pm)) hP hD [0, 1, 2, 3, 4, 5, 6] (by decide) rfl
      subst hQ
      refine vx_widen (k := 12) (n := 56) (Nat.le_of_ble_eq_true rfl) (Nat.le_of_ble_eq_true rfl) ?_
      exact out_x (by rw [hnt]; exact fun x9 hx9 => nomatch hx9) hlk () hfx hP hD hS hce hcv hcl (Nat.le_refl _) (Nat.le_refl _)
    refine W.widen (k := 12) (n := 56) (Nat.le_refl _) (Nat.le_refl _) ?_
    have hw27 : false = true := hw9
    have hP : va_P G.1 CL (VTW G vh ph th svh hs9 ah bh lh rh fa9 rf9 de9 ++ PW G ph pd nr nc pL pG pB pk pa pt pm ++ RWW G r_1 dh2_1 ++ DQB G dh2_1 z2_1 ++ LMW G q2 cK3 vh) _ := hP
    have hD : va_D A (VTW G vh ph th svh hs9 ah bh lh rh fa9 rf9 de9 ++ PW G ph pd nr nc pL pG pB pk pa pt pm ++ RWW G r_1 dh2_1 ++ DQB G dh2_1 z2_1 ++ LMW G q2 cK3 vh) := hD
    exact absurd hw27 (by decide)
set_option maxHeartbeats 4000000 in
set_option maxRecDepth 100000 in
theorem m_X1_boardOf (l : Launch) (G : GG) (vh : Nat) (ph : Nat) (th : Nat) (svh : Nat) (hs9 : Bool) (ah : Nat) (bh : Nat) (lh : Nat) (rh : Nat) (fa9 : Int32) (rf9 : Int32) (de9 : Int32) (pd : Nat → Nat) (nr : Nat) (nc : Nat) (pL : Nat → Nat) (pG : Nat → Nat) (pB : Nat → Bool) (pk : Nat → Int32) (pa : Nat → Nat) (pt : Nat → Nat) (pm : Nat) (wa : Int32) (hd : 2 ≤ nr ∧ nr ≤ 3 ∧ 2 ≤ nc ∧ nc ≤ 3) (hL : ∀ i, pL i < 65536) (hG : ∀ i, pG i < 65536) (hIC : ICok G) (hst : l.stackTraces = false) : MX l G yX1_boardOf cX1_boardOf 3 (some .int) ⟨7, 6, 32, 3075⟩ [.ref vh, .int wa] (VTW G vh ph th svh hs9 ah bh lh rh fa9 rf9 de9 ++ PW G ph pd nr nc pL pG pB pk pa pt pm) (Qi_ G (fun (r : Int32) (_ : Unit) => (r = (boV nr nc pL pG pB wa)) ∧ (bo1 wa = nI 0)) (fun (_ : Unit) => (VTW G vh ph th svh hs9 ah bh lh rh fa9 rf9 de9 ++ PW G ph pd nr nc pL pG pB pk pa pt pm))) (XQ G (fun (_ : Unit) => RJ12) (fun (_ : Unit) => bo1 wa = nI 1) (fun (q9 : Nat) (_ : Unit) => (VTW G vh ph th svh hs9 ah bh lh rh fa9 rf9 de9 ++ PW G ph pd nr nc pL pG pB pk pa pt pm))) := by
  refine MX.ofN (by decide) (Nat.le_of_ble_eq_true rfl) ?_
  intro p e s m args below meth cd A C hnm hini hA hK hZ hP hD hnt ls hl
  generalize hQ : vx_MQ below ((Qi_ G (fun (r : Int32) (_ : Unit) => (r = (boV nr nc pL pG pB wa)) ∧ (bo1 wa = nI 0)) (fun (_ : Unit) => (VTW G vh ph th svh hs9 ah bh lh rh fa9 rf9 de9 ++ PW G ph pd nr nc pL pG pB pk pa pt pm))) A) ((XQ G (fun (_ : Unit) => RJ12) (fun (_ : Unit) => bo1 wa = nI 1) (fun (q9 : Nat) (_ : Unit) => (VTW G vh ph th svh hs9 ah bh lh rh fa9 rf9 de9 ++ PW G ph pd nr nc pL pG pB pk pa pt pm))) A) args s (⟨7, 6, 32, 3075⟩ : Room).cells (⟨7, 6, 32, 3075⟩ : Room).slots A = Q
  obtain ⟨hx, hb, hr, hts, hown, hlk, hml⟩ := C
  have hown : s.vm.findClass RX1 = some m.cls := hown
  have hS : va_S A s.heap s.heap [] := va_S.rf
  have hl : lv_has ls 3 [(0, .ref vh), (1, .int wa)] := hl
  have hmu := dm_mul hd
  refine lv_iload_n hx hb dX1_boardOf_0 rfl (lv_at hl 1 rfl) ?_
  refine lv_iconst (v := nI 0) hx hb dX1_boardOf_1 (by decide) ?_
  refine lv_bipush (v := nI 6) hx hb dX1_boardOf_2 (by decide) ?_
  refine callSi (As := [.int wa, .int (nI 0), .int (nI 6)]) (rest := []) (wc := ([] : va_W)) (wr := (VTW G vh ph th svh hs9 ah bh lh rh fa9 rf9 de9 ++ PW G ph pd nr nc pL pG pB pk pa pt pm)) ⟨hx, hb, hml, hown, hts⟩ (m_X1_in l G wa (nI 0) (nI 6) ) (va_cwS 3 hts (lw_S q1113 q1114 q88 q1115) rfl rfl rfl (by decide +kernel) ⟨Nat.le_of_ble_eq_true rfl, Nat.le_of_ble_eq_true rfl⟩) hK hZ hA hP hD hS [] [0, 1, 2, 3, 4, 5, 6] rfl rfl (by decide) (by decide) (by decide) rfl hl.1 (Nat.le_of_ble_eq_true rfl) ⟨Nat.le_of_ble_eq_true rfl, Nat.le_of_ble_eq_true rfl⟩ rfl dX1_boardOf_4 (fun r9 u9 H locs hw9 hP hD hS => ?_)
  subst hw9
  have hP : va_P G.1 CL (VTW G vh ph th svh hs9 ah bh lh rh fa9 rf9 de9 ++ PW G ph pd nr nc pL pG pB pk pa pt pm) _ := hP
  have hD : va_D A (VTW G vh ph th svh hs9 ah bh lh rh fa9 rf9 de9 ++ PW G ph pd nr nc pL pG pB pk pa pt pm) := hD
  refine callXSv (As := [.int (bI (decide ((nI 0) ≤ wa ∧ wa ≤ (nI 6))))]) (rest := []) (wc := ([] : va_W)) (wr := (VTW G vh ph th svh hs9 ah bh lh rh fa9 rf9 de9 ++ PW G ph pd nr nc pL pG pB pk pa pt pm)) ⟨hx, hb, hml, hown, hts⟩ (m_X1_check l G (decide ((nI 0) ≤ wa ∧ wa ≤ (nI 6))) (by first | assumption | omega)) (va_cwS 1 hts (lw_S q1116 q1117 q88 q1118) rfl rfl rfl (by decide +kernel) ⟨Nat.le_of_ble_eq_true rfl, Nat.le_of_ble_eq_true rfl⟩) hK hZ hA hP hD hS [] [0, 1, 2, 3, 4, 5, 6] rfl rfl (by decide) (by decide) (by decide) rfl hl.1 (Nat.le_of_ble_eq_true rfl) ⟨Nat.le_of_ble_eq_true rfl, Nat.le_of_ble_eq_true rfl⟩ rfl dX1_boardOf_7 (fun ce9 q9 u9 H locs hw9 hP hD hS hce hcv hcl => ?_) (fun u9 H locs hw9 hP hD hS => ?_)
  · skip
    have hx7 : (decide ((nI 0) ≤ wa ∧ wa ≤ (nI 6))) = false := hw9
    have hP : va_P G.1 CL (VTW G vh ph th svh hs9 ah bh lh rh fa9 rf9 de9 ++ PW G ph pd nr nc pL pG pB pk pa pt pm) _ := hP
    have hD : va_D A (VTW G vh ph th svh hs9 ah bh lh rh fa9 rf9 de9 ++ PW G ph pd nr nc pL pG pB pk pa pt pm) := hD
    have hcl : s.vm.findClass RJ12 = some ce9.cls := hcl
    subst hQ
    refine vx_widen (k := 6) (n := 32) (Nat.le_of_ble_eq_true rfl) (Nat.le_of_ble_eq_true rfl) ?_
    exact out_x (by rw [hnt]; exact fun x9 hx9 => nomatch hx9) hlk () (bo1_f hx7) hP hD hS hce hcv hcl (Nat.le_refl _) (Nat.le_refl _)
  refine W.widen (k := 1) (n := 6) (Nat.le_refl _) (Nat.le_refl _) ?_
  have hw7 : (decide ((nI 0) ≤ wa ∧ wa ≤ (nI 6))) = true := hw9
  have hP : va_P G.1 CL (VTW G vh ph th svh hs9 ah bh lh rh fa9 rf9 de9 ++ PW G ph pd nr nc pL pG pB pk pa pt pm) _ := hP
  have hD : va_D A (VTW G vh ph th svh hs9 ah bh lh rh fa9 rf9 de9 ++ PW G ph pd nr nc pL pG pB pk pa pt pm) := hD
  refine lv_aload_n hx hb dX1_boardOf_10 rfl (lv_at hl 0 rfl) ?_
  refine va_get (D := G.1) (ci := 0) (v := .ref ph) (C := RX1) (T := TX1) (N := 11) hx hb hts in_X1 hown hK hP 0 rfl rfl 0 (by decide) (hts _ q428) (fun _ h9 => h9) rfl dX1_boardOf_11 ?_
  refine lv_astore_n (lv' := [(2, .ref ph), (0, .ref vh), (1, .int wa)]) hx hb dX1_boardOf_14 rfl hl (by decide) rfl (fun ls hl => ?_)
  refine lv_iload_n hx hb dX1_boardOf_15 rfl (lv_at hl 2 rfl) ?_
  by_cases k16_0 : wa = nI 0
  · skip
    refine lv_tableIn (off := 40) (tgt := 56) hx hb dX1_boardOf_16 (by rw [k16_0]; decide) (by rw [k16_0]; decide) (by rw [k16_0]; decide) (by decide) ?_
    subst k16_0
    refine lv_aload_n hx hb dX1_boardOf_56 rfl (lv_at hl 0 rfl) ?_
    refine va_getN (D := G.1) (ci := 1) (v := .int (nI nr)) (C := RX2) (T := TX2) (N := 14) hx hb hts in_X2 hown hK hP 1 rfl rfl 0 (by decide) (va_Nw.use rfl (KS.nw hZ q142 rfl)) (fun _ h9 => h9) rfl dX1_boardOf_57 ?_
    subst hQ
    refine W.widen (k := 6) (n := 32) (Nat.le_of_ble_eq_true rfl) (Nat.le_of_ble_eq_true rfl) ?_
    refine vx_ret ?_
    exact ret_i hx hb hr hlk () ⟨rfl, (bo1_t hw7)⟩ hP hD hS rfl dX1_boardOf_60
  · skip
    by_cases k16_1 : wa = nI 1
    · skip
      refine lv_tableIn (off := 45) (tgt := 61) hx hb dX1_boardOf_16 (by rw [k16_1]; decide) (by rw [k16_1]; decide) (by rw [k16_1]; decide) (by decide) ?_
      subst k16_1
      refine lv_aload_n hx hb dX1_boardOf_61 rfl (lv_at hl 0 rfl) ?_
      refine va_getN (D := G.1) (ci := 1) (v := .int (nI nc)) (C := RX2) (T := TX2) (N := 14) hx hb hts in_X2 hown hK hP 1 rfl rfl 1 (by decide) (va_Nw.use rfl (KS.nw hZ q144 rfl)) (fun _ h9 => h9) rfl dX1_boardOf_62 ?_
      subst hQ
      refine W.widen (k := 6) (n := 32) (Nat.le_of_ble_eq_true rfl) (Nat.le_of_ble_eq_true rfl) ?_
      refine vx_ret ?_
      exact ret_i hx hb hr hlk () ⟨rfl, (bo1_t hw7)⟩ hP hD hS rfl dX1_boardOf_65
    · skip
      by_cases k16_2 : wa = nI 2
      · skip
        refine lv_tableIn (off := 50) (tgt := 66) hx hb dX1_boardOf_16 (by rw [k16_2]; decide) (by rw [k16_2]; decide) (by rw [k16_2]; decide) (by decide) ?_
        subst k16_2
        refine lv_aload_n hx hb dX1_boardOf_66 rfl (lv_at hl 0 rfl) ?_
        refine callVi (As := []) (rest := []) (wc := (PW G ph pd nr nc pL pG pB pk pa pt pm)) (wr := (VTW G vh ph th svh hs9 ah bh lh rh fa9 rf9 de9)) ⟨hx, hb, hml, hown, hts⟩ (m_X2_turns l G ph pd nr nc pL pG pB pk pa pt pm ) (cwV 0 hts (lw_V q1381 q1023 q1024 q89 q1025) rfl rfl rfl (by decide +kernel) ⟨Nat.le_of_ble_eq_true rfl, Nat.le_of_ble_eq_true rfl⟩) hK hZ hA hP hD hS [1, 2, 3, 4, 5, 6] [0] rfl rfl (by decide) (by decide) (by decide) 0 1 rfl rfl rfl hl.1 (Nat.le_of_ble_eq_true rfl) ⟨Nat.le_of_ble_eq_true rfl, Nat.le_of_ble_eq_true rfl⟩ rfl dX1_boardOf_67 (fun r9 u9 H locs hw9 hP hD hS => ?_)
        subst hw9
        have hP : va_P G.1 CL (VTW G vh ph th svh hs9 ah bh lh rh fa9 rf9 de9 ++ PW G ph pd nr nc pL pG pB pk pa pt pm) _ := hP
        have hD : va_D A (VTW G vh ph th svh hs9 ah bh lh rh fa9 rf9 de9 ++ PW G ph pd nr nc pL pG pB pk pa pt pm) := hD
        subst hQ
        refine W.widen (k := 6) (n := 32) (Nat.le_of_ble_eq_true rfl) (Nat.le_of_ble_eq_true rfl) ?_
        refine vx_ret ?_
        exact ret_i hx hb hr hlk () ⟨rfl, (bo1_t hw7)⟩ hP hD hS rfl dX1_boardOf_70
      · skip
        by_cases k16_3 : wa = nI 3
        · skip
          refine lv_tableIn (off := 55) (tgt := 71) hx hb dX1_boardOf_16 (by rw [k16_3]; decide) (by rw [k16_3]; decide) (by rw [k16_3]; decide) (by decide) ?_
          subst k16_3
          refine lv_iconst (v := nI 2) hx hb dX1_boardOf_71 (by decide) ?_
          refine lv_aload_n hx hb dX1_boardOf_72 rfl (lv_at hl 1 rfl) ?_
          refine callVr (As := []) (rest := [.int (nI 2)]) (wc := (VTW G vh ph th svh hs9 ah bh lh rh fa9 rf9 de9 ++ PW G ph pd nr nc pL pG pB pk pa pt pm)) (wr := ([] : va_W)) ⟨hx, hb, hml, hown, hts⟩ (m_X1_allLines l G vh ph th svh hs9 ah bh lh rh fa9 rf9 de9 pd nr nc pL pG pB pk pa pt pm (by first | assumption | omega) (by first | assumption | omega)) (cwV 0 hts (lw_V q524 q526 qs6 q88 q527) rfl rfl rfl (by decide +kernel) ⟨Nat.le_of_ble_eq_true rfl, Nat.le_of_ble_eq_true rfl⟩) hK hZ hA hP hD hS [0, 1, 2, 3, 4, 5, 6] [] rfl rfl (by decide) (by decide) (by decide) 0 0 rfl rfl rfl hl.1 (Nat.le_of_ble_eq_true rfl) ⟨Nat.le_of_ble_eq_true rfl, Nat.le_of_ble_eq_true rfl⟩ rfl dX1_boardOf_73 (fun r9 u9 H locs hw9 hP hD hS => ?_)
          refine W.widen (k := 4) (n := 27) (Nat.le_refl _) (Nat.le_refl _) ?_
          obtain ⟨dh2_5, z2_5⟩ := u9
          have hw73 : DQh z2_5 (bxs G (nr + nc)) := hw9
          obtain ⟨r_5, e8⟩ : ∃ z, z = r9 := ⟨_, rfl⟩
          subst e8
          have hP : va_P G.1 CL (VTW G vh ph th svh hs9 ah bh lh rh fa9 rf9 de9 ++ PW G ph pd nr nc pL pG pB pk pa pt pm ++ RWW G r_5 dh2_5 ++ DQB G dh2_5 z2_5) _ := hP
          have hD : va_D A (VTW G vh ph th svh hs9 ah bh lh rh fa9 rf9 de9 ++ PW G ph pd nr nc pL pG pB pk pa pt pm ++ RWW G r_5 dh2_5 ++ DQB G dh2_5 z2_5) := hD
          refine lv_aload_n hx hb dX1_boardOf_76 rfl (lv_at hl 0 rfl) ?_
          obtain ⟨cK2, hcK2⟩ := hZ.lam (y := yX1_boardOf) (pc := 77) (idx := 215) (σ := sh2) (by decide +kernel) (by decide)
          refine mk_lam ok2 rfl hcK2 rfl hx hb hnm hZ hP hD hS hA (by rw [hml]; exact hl.1) (Nat.le_of_ble_eq_true rfl) (Nat.le_of_ble_eq_true rfl) (Nat.le_of_ble_eq_true rfl) dX1_boardOf_77 (fun q6 H hP hD hS => ?_)
          refine W.widen (k := 5) (n := 28) (Nat.le_refl _) (Nat.le_refl _) ?_
          have hP : va_P G.1 CL (VTW G vh ph th svh hs9 ah bh lh rh fa9 rf9 de9 ++ PW G ph pd nr nc pL pG pB pk pa pt pm ++ RWW G r_5 dh2_5 ++ DQB G dh2_5 z2_5 ++ LMW G q6 cK2 ph) _ := hP
          have hD : va_D A (VTW G vh ph th svh hs9 ah bh lh rh fa9 rf9 de9 ++ PW G ph pd nr nc pL pG pB pk pa pt pm ++ RWW G r_5 dh2_5 ++ DQB G dh2_5 z2_5 ++ LMW G q6 cK2 ph) := hD
          refine callVi (As := [.ref q6]) (rest := [.int (nI 2)]) (wc := (RWW G r_5 dh2_5 ++ DQB G dh2_5 z2_5 ++ LMW G q6 cK2 ph ++ PW G ph pd nr nc pL pG pB pk pa pt pm)) (wr := (VTW G vh ph th svh hs9 ah bh lh rh fa9 rf9 de9)) ⟨hx, hb, hml, hown, hts⟩ (m_X7_count__2 l G r_5 dh2_5 z2_5 q6 cK2 ph pd nr nc pL pG pB pk pa pt pm (by first | assumption | omega) hw73 (by first | assumption | omega) hcK2) (cwV 1 hts (lw_V q595 q596 q597 q112 q598) rfl rfl rfl (by decide +kernel) ⟨Nat.le_of_ble_eq_true rfl, Nat.le_of_ble_eq_true rfl⟩) hK hZ hA hP hD hS [7, 8, 9, 10, 1, 2, 3, 4, 5, 6] [0] rfl rfl (by decide) (by decide) (by decide) 0 6 rfl rfl rfl hl.1 (Nat.le_of_ble_eq_true rfl) ⟨Nat.le_of_ble_eq_true rfl, Nat.le_of_ble_eq_true rfl⟩ rfl dX1_boardOf_82 (fun r9 u9 H locs hw9 hP hD hS => ?_)
          refine W.widen (k := 6) (n := 32) (Nat.le_refl _) (Nat.le_refl _) ?_
          subst hw9
          obtain ⟨hP, hD⟩ := re_PD (w := (VTW G vh ph th svh hs9 ah bh lh rh fa9 rf9 de9 ++ PW G ph pd nr nc pL pG pB pk pa pt pm ++ RWW G r_5 dh2_5 ++ DQB G dh2_5 z2_5 ++ LMW G q6 cK2 ph)) hP hD [0, 5, 6, 7, 8, 9, 10, 1, 2, 3, 4] (by decide) rfl
          refine n_imul hx hb dX1_boardOf_85 ?_
          obtain ⟨hP, hD⟩ := re_PD (w := (VTW G vh ph th svh hs9 ah bh lh rh fa9 rf9 de9 ++ PW G ph pd nr nc pL pG pB pk pa pt pm)) hP hD [0, 1, 2, 3, 4, 5, 6] (by decide) rfl
          subst hQ
          refine vx_ret ?_
          exact ret_i hx hb hr hlk () ⟨rfl, (bo1_t hw7)⟩ hP hD hS rfl dX1_boardOf_86
        · skip
          by_cases k16_4 : wa = nI 4
          · skip
            refine lv_tableIn (off := 71) (tgt := 87) hx hb dX1_boardOf_16 (by rw [k16_4]; decide) (by rw [k16_4]; decide) (by rw [k16_4]; decide) (by decide) ?_
            subst k16_4
            refine lv_aload_n hx hb dX1_boardOf_87 rfl (lv_at hl 0 rfl) ?_
            refine callVi (As := []) (rest := []) (wc := (PW G ph pd nr nc pL pG pB pk pa pt pm)) (wr := (VTW G vh ph th svh hs9 ah bh lh rh fa9 rf9 de9)) ⟨hx, hb, hml, hown, hts⟩ (m_X2_unlike l G ph pd nr nc pL pG pB pk pa pt pm (by first | assumption | omega) (by first | assumption | omega)) (cwV 0 hts (lw_V q1384 q486 q487 q89 q488) rfl rfl rfl (by decide +kernel) ⟨Nat.le_of_ble_eq_true rfl, Nat.le_of_ble_eq_true rfl⟩) hK hZ hA hP hD hS [1, 2, 3, 4, 5, 6] [0] rfl rfl (by decide) (by decide) (by decide) 0 1 rfl rfl rfl hl.1 (Nat.le_of_ble_eq_true rfl) ⟨Nat.le_of_ble_eq_true rfl, Nat.le_of_ble_eq_true rfl⟩ rfl dX1_boardOf_88 (fun r9 u9 H locs hw9 hP hD hS => ?_)
            subst hw9
            have hP : va_P G.1 CL (VTW G vh ph th svh hs9 ah bh lh rh fa9 rf9 de9 ++ PW G ph pd nr nc pL pG pB pk pa pt pm) _ := hP
            have hD : va_D A (VTW G vh ph th svh hs9 ah bh lh rh fa9 rf9 de9 ++ PW G ph pd nr nc pL pG pB pk pa pt pm) := hD
            subst hQ
            refine W.widen (k := 6) (n := 32) (Nat.le_of_ble_eq_true rfl) (Nat.le_of_ble_eq_true rfl) ?_
            refine vx_ret ?_
            exact ret_i hx hb hr hlk () ⟨rfl, (bo1_t hw7)⟩ hP hD hS rfl dX1_boardOf_91
          · skip
            by_cases k16_5 : wa = nI 5
            · skip
              refine lv_tableIn (off := 76) (tgt := 92) hx hb dX1_boardOf_16 (by rw [k16_5]; decide) (by rw [k16_5]; decide) (by rw [k16_5]; decide) (by decide) ?_
              subst k16_5
              refine lv_aload_n hx hb dX1_boardOf_92 rfl (lv_at hl 0 rfl) ?_
              refine callVi (As := []) (rest := []) (wc := (PW G ph pd nr nc pL pG pB pk pa pt pm)) (wr := (VTW G vh ph th svh hs9 ah bh lh rh fa9 rf9 de9)) ⟨hx, hb, hml, hown, hts⟩ (m_X2_vowels l G ph pd nr nc pL pG pB pk pa pt pm (by first | assumption | omega) (by first | assumption | omega)) (cwV 0 hts (lw_V q1385 q1386 q1387 q89 q1388) rfl rfl rfl (by decide +kernel) ⟨Nat.le_of_ble_eq_true rfl, Nat.le_of_ble_eq_true rfl⟩) hK hZ hA hP hD hS [1, 2, 3, 4, 5, 6] [0] rfl rfl (by decide) (by decide) (by decide) 0 1 rfl rfl rfl hl.1 (Nat.le_of_ble_eq_true rfl) ⟨Nat.le_of_ble_eq_true rfl, Nat.le_of_ble_eq_true rfl⟩ rfl dX1_boardOf_93 (fun r9 u9 H locs hw9 hP hD hS => ?_)
              subst hw9
              have hP : va_P G.1 CL (VTW G vh ph th svh hs9 ah bh lh rh fa9 rf9 de9 ++ PW G ph pd nr nc pL pG pB pk pa pt pm) _ := hP
              have hD : va_D A (VTW G vh ph th svh hs9 ah bh lh rh fa9 rf9 de9 ++ PW G ph pd nr nc pL pG pB pk pa pt pm) := hD
              subst hQ
              refine W.widen (k := 6) (n := 32) (Nat.le_of_ble_eq_true rfl) (Nat.le_of_ble_eq_true rfl) ?_
              refine vx_ret ?_
              exact ret_i hx hb hr hlk () ⟨(congrArg nI (sm_vws hd)), (bo1_t hw7)⟩ hP hD hS rfl dX1_boardOf_96
            · skip
              refine lv_tableOut (tgt := 97) hx hb dX1_boardOf_16 (by have := lv_neT k16_0 (show (nI 0 : Int32).toInt = 0 by decide); have := lv_neT k16_1 (show (nI 1 : Int32).toInt = 1 by decide); have := lv_neT k16_2 (show (nI 2 : Int32).toInt = 2 by decide); have := lv_neT k16_3 (show (nI 3 : Int32).toInt = 3 by decide); have := lv_neT k16_4 (show (nI 4 : Int32).toInt = 4 by decide); have := lv_neT k16_5 (show (nI 5 : Int32).toInt = 5 by decide); omega) (by decide) ?_
              have hw6 := lastK (by decide) hw7 (below6 k16_0 k16_1 k16_2 k16_3 k16_4 k16_5)
              refine lv_aload_n hx hb dX1_boardOf_97 rfl (lv_at hl 0 rfl) ?_
              refine callVi (As := []) (rest := []) (wc := (PW G ph pd nr nc pL pG pB pk pa pt pm)) (wr := (VTW G vh ph th svh hs9 ah bh lh rh fa9 rf9 de9)) ⟨hx, hb, hml, hown, hts⟩ (m_X2_anyMany l G ph pd nr nc pL pG pB pk pa pt pm (by first | assumption | omega) (by first | assumption | omega)) (cwV 0 hts (lw_V q1389 q490 q491 q89 q492) rfl rfl rfl (by decide +kernel) ⟨Nat.le_of_ble_eq_true rfl, Nat.le_of_ble_eq_true rfl⟩) hK hZ hA hP hD hS [1, 2, 3, 4, 5, 6] [0] rfl rfl (by decide) (by decide) (by decide) 0 1 rfl rfl rfl hl.1 (Nat.le_of_ble_eq_true rfl) ⟨Nat.le_of_ble_eq_true rfl, Nat.le_of_ble_eq_true rfl⟩ rfl dX1_boardOf_98 (fun r9 u9 H locs hw9 hP hD hS => ?_)
              subst hw9
              have hP : va_P G.1 CL (VTW G vh ph th svh hs9 ah bh lh rh fa9 rf9 de9 ++ PW G ph pd nr nc pL pG pB pk pa pt pm) _ := hP
              have hD : va_D A (VTW G vh ph th svh hs9 ah bh lh rh fa9 rf9 de9 ++ PW G ph pd nr nc pL pG pB pk pa pt pm) := hD
              subst hQ
              refine W.widen (k := 6) (n := 32) (Nat.le_of_ble_eq_true rfl) (Nat.le_of_ble_eq_true rfl) ?_
              refine vx_ret ?_
              exact ret_i hx hb hr hlk () ⟨(by rw [hw6]; rfl), (bo1_t hw7)⟩ hP hD hS rfl dX1_boardOf_101
