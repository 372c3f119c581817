/-! ===== VowelTorus ===== -/
abbrev VTW (G : GG) (h pu tr sv : Nat) (hs : Bool) (pa bu li re : Nat) (fa rf de : Int32) : va_W := [(h, .inr (0, [.ref pu, .ref tr, .ref sv, .int (bI hs), .ref pa, .ref bu, .ref li, .ref re, .int fa, .int rf, .int de]))]
set_option maxHeartbeats 4000000 in
set_option maxRecDepth 100000 in
theorem m_X1_lambda_singing_1 (l : Launch) (G : GG) (vh : Nat) (ph : Nat) (th : Nat) (svh : Nat) (hs9 : Bool) (ah : Nat) (bh : Nat) (lh : Nat) (rh : Nat) (fa9 : Int32) (rf9 : Int32) (de9 : Int32) (pd : Nat → Nat) (nr : Nat) (nc : Nat) (pL : Nat → Nat) (pG : Nat → Nat) (pB : Nat → Bool) (pk : Nat → Int32) (pa : Nat → Nat) (pt : Nat → Nat) (pm : Nat) (k : Nat) (hd : 2 ≤ nr ∧ nr ≤ 3 ∧ 2 ≤ nc ∧ nc ≤ 3) (hk : k < nr + nc) (hL : ∀ i, pL i < 65536) (hIC : ICok G) : MM l G yX1_lambda_singing_1 cX1_lambda_singing_1 2 (some .boolean) ⟨3, 0, 0, 69⟩ [.ref vh, .ref (icA G (k + 128))] (VTW G vh ph th svh hs9 ah bh lh rh fa9 rf9 de9 ++ PW G ph pd nr nc pL pG pB pk pa pt pm) (Qi_ G (fun (r : Int32) (_ : Unit) => r = bI (snN nr nc pL k)) (fun (_ : Unit) => (VTW G vh ph th svh hs9 ah bh lh rh fa9 rf9 de9 ++ PW G ph pd nr nc pL pG pB pk pa pt pm))) := by
  refine MM.of (by decide) (Nat.le_of_ble_eq_true rfl) ?_
  intro p e s m args below meth cd A C hini hA hK hZ hP hD ls hl
  generalize hQ : MQ below ((Qi_ G (fun (r : Int32) (_ : Unit) => r = bI (snN nr nc pL k)) (fun (_ : Unit) => (VTW G vh ph th svh hs9 ah bh lh rh fa9 rf9 de9 ++ PW G ph pd nr nc pL pG pB pk pa pt pm))) A) args s (⟨3, 0, 0, 69⟩ : Room).cells (⟨3, 0, 0, 69⟩ : Room).slots A = Q
  obtain ⟨hx, hb, hr, hts, hown, hlk, hml⟩ := C
  have hown : s.vm.findClass RX1 = some m.cls := hown
  have hS : va_S A s.heap s.heap [] := va_S.rf
  have hl : lv_has ls 2 [(0, .ref vh), (1, .ref (icA G (k + 128)))] := hl
  refine lv_aload_n hx hb dX1_lambda_singing_1_0 rfl (lv_at hl 0 rfl) ?_
  refine va_get (D := G.1) (ci := 0) (v := .ref ph) (C := RX1) (T := TX1) (N := 11) hx hb hts in_X1 hown hK hP 0 rfl rfl 0 (by decide) (hts _ q428) (fun _ h9 => h9) rfl dX1_lambda_singing_1_1 ?_
  refine lv_aload_n hx hb dX1_lambda_singing_1_4 rfl (lv_at hl 1 rfl) ?_
  refine callVJi (As := []) (rest := [.ref ph]) (wr := (VTW G vh ph th svh hs9 ah bh lh rh fa9 rf9 de9 ++ PW G ph pd nr nc pL pG pB pk pa pt pm)) ⟨hx, hb, hml, hown, hts⟩ hIC (j := k + 128) (by omega) (m_J18_intValue l G k (by omega) hIC) (cwV 0 hts (lw_V q572 q573 q574 q114 q575) rfl rfl rfl (by decide +kernel) ⟨Nat.le_of_ble_eq_true rfl, Nat.le_of_ble_eq_true rfl⟩) hK hZ hA hP hD hS rfl hl.1 (Nat.le_of_ble_eq_true rfl) ⟨Nat.le_of_ble_eq_true rfl, Nat.le_of_ble_eq_true rfl⟩ rfl dX1_lambda_singing_1_5 (fun r9 u9 H locs hw9 hP hD hS => ?_)
  subst hw9
  refine callVi (As := [.int (nI k)]) (rest := []) (wc := (PW G ph pd nr nc pL pG pB pk pa pt pm)) (wr := (VTW G vh ph th svh hs9 ah bh lh rh fa9 rf9 de9)) ⟨hx, hb, hml, hown, hts⟩ (m_X2_sings l G ph pd nr nc pL pG pB pk pa pt pm k (by first | assumption | omega) (by first | assumption | omega) (by first | assumption | omega)) (cwV 1 hts (lw_V q576 q577 q578 q89 q579) rfl rfl rfl (by decide +kernel) ⟨Nat.le_of_ble_eq_true rfl, Nat.le_of_ble_eq_true rfl⟩) hK hZ hA hP hD hS [1, 2, 3, 4, 5, 6] [0] rfl rfl (by decide) (by decide) (by decide) 0 1 rfl rfl rfl hl.1 (Nat.le_of_ble_eq_true rfl) ⟨Nat.le_of_ble_eq_true rfl, Nat.le_of_ble_eq_true rfl⟩ rfl dX1_lambda_singing_1_8 (fun r9 u9 H locs hw9 hP hD hS => ?_)
  subst hw9
  have hP : va_P G.1 CL (VTW G vh ph th svh hs9 ah bh lh rh fa9 rf9 de9 ++ PW G ph pd nr nc pL pG pB pk pa pt pm) _ := hP
  have hD : va_D A (VTW G vh ph th svh hs9 ah bh lh rh fa9 rf9 de9 ++ PW G ph pd nr nc pL pG pB pk pa pt pm) := hD
  subst hQ
  exact ret_i hx hb hr hlk () rfl hP hD hS (bI_nar _) dX1_lambda_singing_1_11
set_option maxHeartbeats 4000000 in
set_option maxRecDepth 100000 in
theorem m_X1_lambda_ranked_2 (l : Launch) (G : GG) (vh : Nat) (ph : Nat) (th : Nat) (svh : Nat) (hs9 : Bool) (ah : Nat) (bh : Nat) (lh : Nat) (rh : Nat) (fa9 : Int32) (rf9 : Int32) (de9 : Int32) (pd : Nat → Nat) (nr : Nat) (nc : Nat) (pL : Nat → Nat) (pG : Nat → Nat) (pB : Nat → Bool) (pk : Nat → Int32) (pa : Nat → Nat) (pt : Nat → Nat) (pm : Nat) (k : Nat) (hd : 2 ≤ nr ∧ nr ≤ 3 ∧ 2 ≤ nc ∧ nc ≤ 3) (hk : k < nr + nc) (hL : ∀ i, pL i < 65536) (hIC : ICok G) : MM l G yX1_lambda_ranked_2 cX1_lambda_ranked_2 2 (some .int) ⟨2, 0, 0, 45⟩ [.ref vh, .ref (icA G (k + 128))] (VTW G vh ph th svh hs9 ah bh lh rh fa9 rf9 de9 ++ PW G ph pd nr nc pL pG pB pk pa pt pm) (Qi_ G (fun (r : Int32) (_ : Unit) => r = nI (vwsN nr nc pL k)) (fun (_ : Unit) => (VTW G vh ph th svh hs9 ah bh lh rh fa9 rf9 de9 ++ PW G ph pd nr nc pL pG pB pk pa pt pm))) := by
  refine MM.of (by decide) (Nat.le_of_ble_eq_true rfl) ?_
  intro p e s m args below meth cd A C hini hA hK hZ hP hD ls hl
  generalize hQ : MQ below ((Qi_ G (fun (r : Int32) (_ : Unit) => r = nI (vwsN nr nc pL k)) (fun (_ : Unit) => (VTW G vh ph th svh hs9 ah bh lh rh fa9 rf9 de9 ++ PW G ph pd nr nc pL pG pB pk pa pt pm))) A) args s (⟨2, 0, 0, 45⟩ : Room).cells (⟨2, 0, 0, 45⟩ : Room).slots A = Q
  obtain ⟨hx, hb, hr, hts, hown, hlk, hml⟩ := C
  have hown : s.vm.findClass RX1 = some m.cls := hown
  have hS : va_S A s.heap s.heap [] := va_S.rf
  have hl : lv_has ls 2 [(0, .ref vh), (1, .ref (icA G (k + 128)))] := hl
  refine lv_aload_n hx hb dX1_lambda_ranked_2_0 rfl (lv_at hl 0 rfl) ?_
  refine va_get (D := G.1) (ci := 0) (v := .ref ph) (C := RX1) (T := TX1) (N := 11) hx hb hts in_X1 hown hK hP 0 rfl rfl 0 (by decide) (hts _ q428) (fun _ h9 => h9) rfl dX1_lambda_ranked_2_1 ?_
  refine lv_aload_n hx hb dX1_lambda_ranked_2_4 rfl (lv_at hl 1 rfl) ?_
  refine callVJi (As := []) (rest := [.ref ph]) (wr := (VTW G vh ph th svh hs9 ah bh lh rh fa9 rf9 de9 ++ PW G ph pd nr nc pL pG pB pk pa pt pm)) ⟨hx, hb, hml, hown, hts⟩ hIC (j := k + 128) (by omega) (m_J18_intValue l G k (by omega) hIC) (cwV 0 hts (lw_V q572 q573 q574 q114 q575) rfl rfl rfl (by decide +kernel) ⟨Nat.le_of_ble_eq_true rfl, Nat.le_of_ble_eq_true rfl⟩) hK hZ hA hP hD hS rfl hl.1 (Nat.le_of_ble_eq_true rfl) ⟨Nat.le_of_ble_eq_true rfl, Nat.le_of_ble_eq_true rfl⟩ rfl dX1_lambda_ranked_2_5 (fun r9 u9 H locs hw9 hP hD hS => ?_)
  subst hw9
  refine callVi (As := [.int (nI k)]) (rest := []) (wc := (PW G ph pd nr nc pL pG pB pk pa pt pm)) (wr := (VTW G vh ph th svh hs9 ah bh lh rh fa9 rf9 de9)) ⟨hx, hb, hml, hown, hts⟩ (m_X2_vowelsOn l G ph pd nr nc pL pG pB pk pa pt pm k (by first | assumption | omega) (by first | assumption | omega) (by first | assumption | omega)) (cwV 1 hts (lw_V q1482 q585 q586 q89 q587) rfl rfl rfl (by decide +kernel) ⟨Nat.le_of_ble_eq_true rfl, Nat.le_of_ble_eq_true rfl⟩) hK hZ hA hP hD hS [1, 2, 3, 4, 5, 6] [0] rfl rfl (by decide) (by decide) (by decide) 0 1 rfl rfl rfl hl.1 (Nat.le_of_ble_eq_true rfl) ⟨Nat.le_of_ble_eq_true rfl, Nat.le_of_ble_eq_true rfl⟩ rfl dX1_lambda_ranked_2_8 (fun r9 u9 H locs hw9 hP hD hS => ?_)
  subst hw9
  have hP : va_P G.1 CL (VTW G vh ph th svh hs9 ah bh lh rh fa9 rf9 de9 ++ PW G ph pd nr nc pL pG pB pk pa pt pm) _ := hP
  have hD : va_D A (VTW G vh ph th svh hs9 ah bh lh rh fa9 rf9 de9 ++ PW G ph pd nr nc pL pG pB pk pa pt pm) := hD
  subst hQ
  exact ret_i hx hb hr hlk () rfl hP hD hS rfl dX1_lambda_ranked_2_11
set_option maxHeartbeats 4000000 in
set_option maxRecDepth 100000 in
theorem m_X1_lambda_boardOf_0 (l : Launch) (G : GG) (ph : Nat) (pd : Nat → Nat) (nr : Nat) (nc : Nat) (pL : Nat → Nat) (pG : Nat → Nat) (pB : Nat → Bool) (pk : Nat → Int32) (pa : Nat → Nat) (pt : Nat → Nat) (pm : Nat) (k : Nat) (hk : k < 6) (hIC : ICok G) : MM l G yX1_lambda_boardOf_0 cX1_lambda_boardOf_0 2 (some .boolean) ⟨1, 0, 0, 20⟩ [.ref ph, .ref (icA G (k + 128))] (PW G ph pd nr nc pL pG pB pk pa pt pm) (Qi_ G (fun (r : Int32) (_ : Unit) => r = bI (!pB k)) (fun (_ : Unit) => (PW G ph pd nr nc pL pG pB pk pa pt pm))) := by
  refine MM.of (by decide) (Nat.le_of_ble_eq_true rfl) ?_
  intro p e s m args below meth cd A C hini hA hK hZ hP hD ls hl
  generalize hQ : MQ below ((Qi_ G (fun (r : Int32) (_ : Unit) => r = bI (!pB k)) (fun (_ : Unit) => (PW G ph pd nr nc pL pG pB pk pa pt pm))) A) args s (⟨1, 0, 0, 20⟩ : Room).cells (⟨1, 0, 0, 20⟩ : Room).slots A = Q
  obtain ⟨hx, hb, hr, hts, hown, hlk, hml⟩ := C
  have hown : s.vm.findClass RX1 = some m.cls := hown
  have hS : va_S A s.heap s.heap [] := va_S.rf
  have hl : lv_has ls 2 [(0, .ref ph), (1, .ref (icA G (k + 128)))] := hl
  refine lv_aload_n hx hb dX1_lambda_boardOf_0_0 rfl (lv_at hl 0 rfl) ?_
  refine va_getN (D := G.1) (ci := 1) (v := .ref (pd 2)) (C := RX2) (T := TX2) (N := 14) hx hb hts in_X2 hown hK hP 0 rfl rfl 4 (by decide) (va_Nw.use rfl (KS.nw hZ q150 rfl)) (fun _ h9 => h9) rfl dX1_lambda_boardOf_0_1 ?_
  refine lv_aload_n hx hb dX1_lambda_boardOf_0_4 rfl (lv_at hl 1 rfl) ?_
  refine callVJi (As := []) (rest := [.ref (pd 2)]) (wr := (PW G ph pd nr nc pL pG pB pk pa pt pm)) ⟨hx, hb, hml, hown, hts⟩ hIC (j := k + 128) (by omega) (m_J18_intValue l G k (by omega) hIC) (cwV 0 hts (lw_V q572 q573 q574 q114 q575) rfl rfl rfl (by decide +kernel) ⟨Nat.le_of_ble_eq_true rfl, Nat.le_of_ble_eq_true rfl⟩) hK hZ hA hP hD hS rfl hl.1 (Nat.le_of_ble_eq_true rfl) ⟨Nat.le_of_ble_eq_true rfl, Nat.le_of_ble_eq_true rfl⟩ rfl dX1_lambda_boardOf_0_5 (fun r9 u9 H locs hw9 hP hD hS => ?_)
  subst hw9
  refine b_zald hx hb hK hP 3 0 rfl rfl (by omega) (by decide) dX1_lambda_boardOf_0_8 ?_
  refine b_if_ne (tgt := 16) hx hb dX1_lambda_boardOf_0_9 (by decide) (fun c9 => ?_) (fun c9 => ?_)
  · skip
    refine lv_iconst (v := nI 0) hx hb dX1_lambda_boardOf_0_16 (by decide) ?_
    subst hQ
    exact ret_i hx hb hr hlk () (bI_0 (by rw [c9]; rfl)) hP hD hS rfl dX1_lambda_boardOf_0_17
  · skip
    refine lv_iconst (v := nI 1) hx hb dX1_lambda_boardOf_0_12 (by decide) ?_
    refine lv_goto (tgt := 17) hx hb dX1_lambda_boardOf_0_13 (by decide) ?_
    subst hQ
    exact ret_i hx hb hr hlk () (bI_1 (by rw [c9]; rfl)) hP hD hS rfl dX1_lambda_boardOf_0_17
set_option maxHeartbeats 4000000 in
set_option maxRecDepth 100000 in
theorem m_X1_lambda_account_3 (l : Launch) (G : GG) (ph : Nat) (pd : Nat → Nat) (nr : Nat) (nc : Nat) (pL : Nat → Nat) (pG : Nat → Nat) (pB : Nat → Bool) (pk : Nat → Int32) (pa : Nat → Nat) (pt : Nat → Nat) (pm : Nat) (k : Nat) (hk : k < 6) (hIC : ICok G) : MM l G yX1_lambda_account_3 cX1_lambda_account_3 2 (some .boolean) ⟨1, 0, 0, 20⟩ [.ref ph, .ref (icA G (k + 128))] (PW G ph pd nr nc pL pG pB pk pa pt pm) (Qi_ G (fun (r : Int32) (_ : Unit) => r = bI (pB k)) (fun (_ : Unit) => (PW G ph pd nr nc pL pG pB pk pa pt pm))) := by
  refine MM.of (by decide) (Nat.le_of_ble_eq_true rfl) ?_
  intro p e s m args below meth cd A C hini hA hK hZ hP hD ls hl
  generalize hQ : MQ below ((Qi_ G (fun (r : Int32) (_ : Unit) => r = bI (pB k)) (fun (_ : Unit) => (PW G ph pd nr nc pL pG pB pk pa pt pm))) A) args s (⟨1, 0, 0, 20⟩ : Room).cells (⟨1, 0, 0, 20⟩ : Room).slots A = Q
  obtain ⟨hx, hb, hr, hts, hown, hlk, hml⟩ := C
  have hown : s.vm.findClass RX1 = some m.cls := hown
  have hS : va_S A s.heap s.heap [] := va_S.rf
  have hl : lv_has ls 2 [(0, .ref ph), (1, .ref (icA G (k + 128)))] := hl
  refine lv_aload_n hx hb dX1_lambda_account_3_0 rfl (lv_at hl 0 rfl) ?_
  refine va_getN (D := G.1) (ci := 1) (v := .ref (pd 2)) (C := RX2) (T := TX2) (N := 14) hx hb hts in_X2 hown hK hP 0 rfl rfl 4 (by decide) (va_Nw.use rfl (KS.nw hZ q150 rfl)) (fun _ h9 => h9) rfl dX1_lambda_account_3_1 ?_
  refine lv_aload_n hx hb dX1_lambda_account_3_4 rfl (lv_at hl 1 rfl) ?_
  refine callVJi (As := []) (rest := [.ref (pd 2)]) (wr := (PW G ph pd nr nc pL pG pB pk pa pt pm)) ⟨hx, hb, hml, hown, hts⟩ hIC (j := k + 128) (by omega) (m_J18_intValue l G k (by omega) hIC) (cwV 0 hts (lw_V q572 q573 q574 q114 q575) rfl rfl rfl (by decide +kernel) ⟨Nat.le_of_ble_eq_true rfl, Nat.le_of_ble_eq_true rfl⟩) hK hZ hA hP hD hS rfl hl.1 (Nat.le_of_ble_eq_true rfl) ⟨Nat.le_of_ble_eq_true rfl, Nat.le_of_ble_eq_true rfl⟩ rfl dX1_lambda_account_3_5 (fun r9 u9 H locs hw9 hP hD hS => ?_)
  subst hw9
  refine b_zald hx hb hK hP 3 0 rfl rfl (by omega) (by decide) dX1_lambda_account_3_8 ?_
  subst hQ
  exact ret_i hx hb hr hlk () rfl hP hD hS (bI_nar _) dX1_lambda_account_3_9
