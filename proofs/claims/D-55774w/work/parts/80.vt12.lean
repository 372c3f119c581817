set_option maxHeartbeats 4000000 in
set_option maxRecDepth 100000 in
theorem m_X1_away (l : Launch) (G : GG) (vh : Nat) (ph : Nat) (th : Nat) (svh : Nat) (hs9 : Bool) (ah : Nat) (bh : Nat) (lh : Nat) (rh : Nat) (fa9 : Int32) (rf9 : Int32) (de9 : Int32) (pd : Nat → Nat) (nr : Nat) (nc : Nat) (pL : Nat → Nat) (pG : Nat → Nat) (pB : Nat → Bool) (pk : Nat → Int32) (pa : Nat → Nat) (pt : Nat → Nat) (pm : Nat) (az : Bool) (hd : 2 ≤ nr ∧ nr ≤ 3 ∧ 2 ≤ nc ∧ nc ≤ 3) (hL : ∀ i, pL i < 65536) (hG : ∀ i, pG i < 65536) (hA0 : ∀ i, pa i < 65536) (hT0 : ∀ i, pt i < 100) (hst : l.stackTraces = false) : MX l G yX1_away cX1_away 3 (some .int) ⟨9, 1, 6, 197⟩ [.ref vh, .int (bI az)] (VTW G vh ph th svh hs9 ah bh lh rh fa9 rf9 de9 ++ PW G ph pd nr nc pL pG pB pk pa pt pm) (Qi_ G (fun (r : Int32) (u : (Nat → Nat) × (Nat → Nat) × (Nat)) => (r = nI (awZ nr nc pL pG pB)) ∧ ((¬ (awZ nr nc pL pG pB) = 4) ∧ (∀ i, u.1 i < 65536) ∧ ∀ i, u.2.1 i < 100)) (fun (u : (Nat → Nat) × (Nat → Nat) × (Nat)) => (VTW G vh ph th svh hs9 ah bh lh rh fa9 rf9 de9 ++ PW G ph pd nr nc pL pG pB pk u.1 u.2.1 u.2.2))) (XQ G (fun (u : (Nat → Nat) × (Nat → Nat) × (Nat)) => RJ16) (fun (u : (Nat → Nat) × (Nat → Nat) × (Nat)) => (awZ nr nc pL pG pB) = 4 ∧ (∀ i, u.1 i < 65536) ∧ ∀ i, u.2.1 i < 100) (fun (q9 : Nat) (u : (Nat → Nat) × (Nat → Nat) × (Nat)) => (VTW G vh ph th svh hs9 ah bh lh rh fa9 rf9 de9 ++ PW G ph pd nr nc pL pG pB pk u.1 u.2.1 u.2.2))) := by
  refine MX.of (by decide) (Nat.le_of_ble_eq_true rfl) ?_
  intro p e s m args below meth cd A C hini hA hK hZ hP hD hnt ls hl
  generalize hQ : vx_MQ below ((Qi_ G (fun (r : Int32) (u : (Nat → Nat) × (Nat → Nat) × (Nat)) => (r = nI (awZ nr nc pL pG pB)) ∧ ((¬ (awZ nr nc pL pG pB) = 4) ∧ (∀ i, u.1 i < 65536) ∧ ∀ i, u.2.1 i < 100)) (fun (u : (Nat → Nat) × (Nat → Nat) × (Nat)) => (VTW G vh ph th svh hs9 ah bh lh rh fa9 rf9 de9 ++ PW G ph pd nr nc pL pG pB pk u.1 u.2.1 u.2.2))) A) ((XQ G (fun (u : (Nat → Nat) × (Nat → Nat) × (Nat)) => RJ16) (fun (u : (Nat → Nat) × (Nat → Nat) × (Nat)) => (awZ nr nc pL pG pB) = 4 ∧ (∀ i, u.1 i < 65536) ∧ ∀ i, u.2.1 i < 100) (fun (q9 : Nat) (u : (Nat → Nat) × (Nat → Nat) × (Nat)) => (VTW G vh ph th svh hs9 ah bh lh rh fa9 rf9 de9 ++ PW G ph pd nr nc pL pG pB pk u.1 u.2.1 u.2.2))) A) args s (⟨9, 1, 6, 197⟩ : Room).cells (⟨9, 1, 6, 197⟩ : Room).slots A = Q
  obtain ⟨hx, hb, hr, hts, hown, hlk, hml⟩ := C
  have hown : s.vm.findClass RX1 = some m.cls := hown
  have hS : va_S A s.heap s.heap [] := va_S.rf
  have hl : lv_has ls 3 [(0, .ref vh), (1, .int (bI az))] := hl
  have hmu := dm_mul hd
  have ha9 : awZ nr nc pL pG pB ≤ 4 := awN_le _
  refine lv_iload_n hx hb dX1_away_0 rfl (lv_at hl 1 rfl) ?_
  refine b_if_eq (tgt := 14) hx hb dX1_away_1 (by decide) (fun c1 => ?_) (fun c1 => ?_)
  · skip
    refine lv_aload_n hx hb dX1_away_14 rfl (lv_at hl 0 rfl) ?_
    refine va_get (D := G.1) (ci := 0) (v := .ref ph) (C := RX1) (T := TX1) (N := 11) hx hb hts in_X1 hown hK hP 0 rfl rfl 0 (by decide) (hts _ q428) (fun _ h9 => h9) rfl dX1_away_15 ?_
    refine callVi (As := []) (rest := []) (wc := (PW G ph pd nr nc pL pG pB pk pa pt pm)) (wr := (VTW G vh ph th svh hs9 ah bh lh rh fa9 rf9 de9)) ⟨hx, hb, hml, hown, hts⟩ (m_X2_away l G ph pd nr nc pL pG pB pk pa pt pm (by first | assumption | omega) (by first | assumption | omega) (by first | assumption | omega) (by first | assumption | omega) (by first | assumption | omega)) (cwV 0 hts (lw_V q1398 q1010 q1011 q89 q1012) rfl rfl rfl (by decide +kernel) ⟨Nat.le_of_ble_eq_true rfl, Nat.le_of_ble_eq_true rfl⟩) hK hZ hA hP hD hS [1, 2, 3, 4, 5, 6] [0] rfl rfl (by decide) (by decide) (by decide) 0 1 rfl rfl rfl hl.1 (Nat.le_of_ble_eq_true rfl) ⟨Nat.le_of_ble_eq_true rfl, Nat.le_of_ble_eq_true rfl⟩ rfl dX1_away_18 (fun r9 u9 H locs hw9 hP hD hS => ?_)
    obtain ⟨a1_1, t1_1, n1_1⟩ := u9
    obtain ⟨hr9, hw18⟩ := hw9
    subst hr9
    have hw18 : (∀ i, a1_1 i < 65536) ∧ ∀ i, t1_1 i < 100 := hw18
    have hP : va_P G.1 CL (VTW G vh ph th svh hs9 ah bh lh rh fa9 rf9 de9 ++ PW G ph pd nr nc pL pG pB pk a1_1 t1_1 n1_1) _ := hP
    have hD : va_D A (VTW G vh ph th svh hs9 ah bh lh rh fa9 rf9 de9 ++ PW G ph pd nr nc pL pG pB pk a1_1 t1_1 n1_1) := hD
    refine lv_istore_n (lv' := [(2, .int (oN 4 (awN (fun d => rch nr nc pB pG d pL)))), (0, .ref vh), (1, .int (bI az))]) hx hb dX1_away_21 rfl hl (by decide) rfl (fun ls hl => ?_)
    refine lv_iload_n hx hb dX1_away_22 rfl (lv_at hl 0 rfl) ?_
    refine lv_iconst (v := (-1)) hx hb dX1_away_23 (by decide) ?_
    refine lv_icmp_eq (tgt := 31) hx hb dX1_away_24 (by decide) (fun c24 => ?_) (fun c24 => ?_)
    · skip
      have h49 : awZ nr nc pL pG pB = 4 := by have h9 : oN 4 (awZ nr nc pL pG pB) = -1 := c24; rw [oN_m1 (by decide)] at h9; omega
      refine lv_iconst (v := nI 0) hx hb dX1_away_31 (by decide) ?_
      refine callXSv (As := [.int (nI 0)]) (rest := []) (wc := ([] : va_W)) (wr := (VTW G vh ph th svh hs9 ah bh lh rh fa9 rf9 de9 ++ PW G ph pd nr nc pL pG pB pk a1_1 t1_1 n1_1)) ⟨hx, hb, hml, hown, hts⟩ (m_X1_checkElement l G false (by first | assumption | omega)) (va_cwS 1 hts (lw_S q1348 q1349 q88 q1350) rfl rfl rfl (by decide +kernel) ⟨Nat.le_of_ble_eq_true rfl, Nat.le_of_ble_eq_true rfl⟩) hK hZ hA hP hD hS [] [0, 1, 2, 3, 4, 5, 6] rfl rfl (by decide) (by decide) (by decide) rfl hl.1 (Nat.le_of_ble_eq_true rfl) ⟨Nat.le_of_ble_eq_true rfl, Nat.le_of_ble_eq_true rfl⟩ rfl dX1_away_32 (fun ce9 q9 u9 H locs hw9 hP hD hS hce hcv hcl => ?_) (fun u9 H locs hw9 hP hD hS => ?_)
      · skip
        have hx32 : false = false := hw9
        have hP : va_P G.1 CL (VTW G vh ph th svh hs9 ah bh lh rh fa9 rf9 de9 ++ PW G ph pd nr nc pL pG pB pk a1_1 t1_1 n1_1) _ := hP
        have hD : va_D A (VTW G vh ph th svh hs9 ah bh lh rh fa9 rf9 de9 ++ PW G ph pd nr nc pL pG pB pk a1_1 t1_1 n1_1) := hD
        have hcl : s.vm.findClass RJ16 = some ce9.cls := hcl
        subst hQ
        refine vx_widen (k := 1) (n := 6) (Nat.le_of_ble_eq_true rfl) (Nat.le_of_ble_eq_true rfl) ?_
        exact out_x (by rw [hnt]; exact fun x9 hx9 => nomatch hx9) hlk ⟨a1_1, t1_1, n1_1⟩ ⟨h49, hw18⟩ hP hD hS hce hcv hcl (Nat.le_refl _) (Nat.le_refl _)
      refine W.widen (k := 1) (n := 6) (Nat.le_refl _) (Nat.le_refl _) ?_
      have hw32 : false = true := hw9
      have hP : va_P G.1 CL (VTW G vh ph th svh hs9 ah bh lh rh fa9 rf9 de9 ++ PW G ph pd nr nc pL pG pB pk a1_1 t1_1 n1_1) _ := hP
      have hD : va_D A (VTW G vh ph th svh hs9 ah bh lh rh fa9 rf9 de9 ++ PW G ph pd nr nc pL pG pB pk a1_1 t1_1 n1_1) := hD
      exact absurd hw32 (by decide)
    · skip
      have h49 : ¬ awZ nr nc pL pG pB = 4 := fun z => c24 (show oN 4 (awZ nr nc pL pG pB) = -1 by rw [z]; rfl)
      refine lv_iconst (v := nI 1) hx hb dX1_away_27 (by decide) ?_
      refine lv_goto (tgt := 32) hx hb dX1_away_28 (by decide) ?_
      refine callXSv (As := [.int (nI 1)]) (rest := []) (wc := ([] : va_W)) (wr := (VTW G vh ph th svh hs9 ah bh lh rh fa9 rf9 de9 ++ PW G ph pd nr nc pL pG pB pk a1_1 t1_1 n1_1)) ⟨hx, hb, hml, hown, hts⟩ (m_X1_checkElement l G true (by first | assumption | omega)) (va_cwS 1 hts (lw_S q1348 q1349 q88 q1350) rfl rfl rfl (by decide +kernel) ⟨Nat.le_of_ble_eq_true rfl, Nat.le_of_ble_eq_true rfl⟩) hK hZ hA hP hD hS [] [0, 1, 2, 3, 4, 5, 6] rfl rfl (by decide) (by decide) (by decide) rfl hl.1 (Nat.le_of_ble_eq_true rfl) ⟨Nat.le_of_ble_eq_true rfl, Nat.le_of_ble_eq_true rfl⟩ rfl dX1_away_32 (fun ce9 q9 u9 H locs hw9 hP hD hS hce hcv hcl => ?_) (fun u9 H locs hw9 hP hD hS => ?_)
      · skip
        have hx32 : true = false := hw9
        have hP : va_P G.1 CL (VTW G vh ph th svh hs9 ah bh lh rh fa9 rf9 de9 ++ PW G ph pd nr nc pL pG pB pk a1_1 t1_1 n1_1) _ := hP
        have hD : va_D A (VTW G vh ph th svh hs9 ah bh lh rh fa9 rf9 de9 ++ PW G ph pd nr nc pL pG pB pk a1_1 t1_1 n1_1) := hD
        exact absurd hx32 (by decide)
      refine W.widen (k := 1) (n := 6) (Nat.le_refl _) (Nat.le_refl _) ?_
      have hw32 : true = true := hw9
      have hP : va_P G.1 CL (VTW G vh ph th svh hs9 ah bh lh rh fa9 rf9 de9 ++ PW G ph pd nr nc pL pG pB pk a1_1 t1_1 n1_1) _ := hP
      have hD : va_D A (VTW G vh ph th svh hs9 ah bh lh rh fa9 rf9 de9 ++ PW G ph pd nr nc pL pG pB pk a1_1 t1_1 n1_1) := hD
      refine lv_iload_n hx hb dX1_away_35 rfl (lv_at hl 0 rfl) ?_
      subst hQ
      refine vx_ret ?_
      exact ret_i hx hb hr hlk (⟨a1_1, t1_1, n1_1⟩) ⟨(show oN 4 (awZ nr nc pL pG pB) = _ from oN_lt (by omega)), ⟨h49, hw18⟩⟩ hP hD hS rfl dX1_away_36
  · skip
    refine lv_aload_n hx hb dX1_away_4 rfl (lv_at hl 0 rfl) ?_
    refine va_get (D := G.1) (ci := 0) (v := .ref ph) (C := RX1) (T := TX1) (N := 11) hx hb hts in_X1 hown hK hP 0 rfl rfl 0 (by decide) (hts _ q428) (fun _ h9 => h9) rfl dX1_away_5 ?_
    refine callVi (As := []) (rest := []) (wc := (PW G ph pd nr nc pL pG pB pk pa pt pm)) (wr := (VTW G vh ph th svh hs9 ah bh lh rh fa9 rf9 de9)) ⟨hx, hb, hml, hown, hts⟩ (m_X2_awayAgain l G ph pd nr nc pL pG pB pk pa pt pm (by first | assumption | omega) (by first | assumption | omega) (by first | assumption | omega)) (cwV 0 hts (lw_V q1397 q1048 q1049 q89 q1050) rfl rfl rfl (by decide +kernel) ⟨Nat.le_of_ble_eq_true rfl, Nat.le_of_ble_eq_true rfl⟩) hK hZ hA hP hD hS [1, 2, 3, 4, 5, 6] [0] rfl rfl (by decide) (by decide) (by decide) 0 1 rfl rfl rfl hl.1 (Nat.le_of_ble_eq_true rfl) ⟨Nat.le_of_ble_eq_true rfl, Nat.le_of_ble_eq_true rfl⟩ rfl dX1_away_8 (fun r9 u9 H locs hw9 hP hD hS => ?_)
    subst hw9
    have hP : va_P G.1 CL (VTW G vh ph th svh hs9 ah bh lh rh fa9 rf9 de9 ++ PW G ph pd nr nc pL pG pB pk pa pt pm) _ := hP
    have hD : va_D A (VTW G vh ph th svh hs9 ah bh lh rh fa9 rf9 de9 ++ PW G ph pd nr nc pL pG pB pk pa pt pm) := hD
    refine lv_goto (tgt := 21) hx hb dX1_away_11 (by decide) ?_
    refine lv_istore_n (lv' := [(2, .int (oN 4 (awN (fun d => rch nr nc pB pG d pL)))), (0, .ref vh), (1, .int (bI az))]) hx hb dX1_away_21 rfl hl (by decide) rfl (fun ls hl => ?_)
    refine lv_iload_n hx hb dX1_away_22 rfl (lv_at hl 0 rfl) ?_
    refine lv_iconst (v := (-1)) hx hb dX1_away_23 (by decide) ?_
    refine lv_icmp_eq (tgt := 31) hx hb dX1_away_24 (by decide) (fun c24 => ?_) (fun c24 => ?_)
    · skip
      have h49 : awZ nr nc pL pG pB = 4 := by have h9 : oN 4 (awZ nr nc pL pG pB) = -1 := c24; rw [oN_m1 (by decide)] at h9; omega
      refine lv_iconst (v := nI 0) hx hb dX1_away_31 (by decide) ?_
      refine callXSv (As := [.int (nI 0)]) (rest := []) (wc := ([] : va_W)) (wr := (VTW G vh ph th svh hs9 ah bh lh rh fa9 rf9 de9 ++ PW G ph pd nr nc pL pG pB pk pa pt pm)) ⟨hx, hb, hml, hown, hts⟩ (m_X1_checkElement l G false (by first | assumption | omega)) (va_cwS 1 hts (lw_S q1348 q1349 q88 q1350) rfl rfl rfl (by decide +kernel) ⟨Nat.le_of_ble_eq_true rfl, Nat.le_of_ble_eq_true rfl⟩) hK hZ hA hP hD hS [] [0, 1, 2, 3, 4, 5, 6] rfl rfl (by decide) (by decide) (by decide) rfl hl.1 (Nat.le_of_ble_eq_true rfl) ⟨Nat.le_of_ble_eq_true rfl, Nat.le_of_ble_eq_true rfl⟩ rfl dX1_away_32 (fun ce9 q9 u9 H locs hw9 hP hD hS hce hcv hcl => ?_) (fun u9 H locs hw9 hP hD hS => ?_)
      · skip
        have hx32 : false = false := hw9
        have hP : va_P G.1 CL (VTW G vh ph th svh hs9 ah bh lh rh fa9 rf9 de9 ++ PW G ph pd nr nc pL pG pB pk pa pt pm) _ := hP
        have hD : va_D A (VTW G vh ph th svh hs9 ah bh lh rh fa9 rf9 de9 ++ PW G ph pd nr nc pL pG pB pk pa pt pm) := hD
        have hcl : s.vm.findClass RJ16 = some ce9.cls := hcl
        subst hQ
        refine vx_widen (k := 1) (n := 6) (Nat.le_of_ble_eq_true rfl) (Nat.le_of_ble_eq_true rfl) ?_
        exact out_x (by rw [hnt]; exact fun x9 hx9 => nomatch hx9) hlk ⟨pa, pt, pm⟩ ⟨h49, hA0, hT0⟩ hP hD hS hce hcv hcl (Nat.le_refl _) (Nat.le_refl _)
      refine W.widen (k := 1) (n := 6) (Nat.le_refl _) (Nat.le_refl _) ?_
      have hw32 : false = true := hw9
      have hP : va_P G.1 CL (VTW G vh ph th svh hs9 ah bh lh rh fa9 rf9 de9 ++ PW G ph pd nr nc pL pG pB pk pa pt pm) _ := hP
      have hD : va_D A (VTW G vh ph th svh hs9 ah bh lh rh fa9 rf9 de9 ++ PW G ph pd nr nc pL pG pB pk pa pt pm) := hD
      exact absurd hw32 (by decide)
    · skip
      have h49 : ¬ awZ nr nc pL pG pB = 4 := fun z => c24 (show oN 4 (awZ nr nc pL pG pB) = -1 by rw [z]; rfl)
      refine lv_iconst (v := nI 1) hx hb dX1_away_27 (by decide) ?_
      refine lv_goto (tgt := 32) hx hb dX1_away_28 (by decide) ?_
      refine callXSv (As := [.int (nI 1)]) (rest := []) (wc := ([] : va_W)) (wr := (VTW G vh ph th svh hs9 ah bh lh rh fa9 rf9 de9 ++ PW G ph pd nr nc pL pG pB pk pa pt pm)) ⟨hx, hb, hml, hown, hts⟩ (m_X1_checkElement l G true (by first | assumption | omega)) (va_cwS 1 hts (lw_S q1348 q1349 q88 q1350) rfl rfl rfl (by decide +kernel) ⟨Nat.le_of_ble_eq_true rfl, Nat.le_of_ble_eq_true rfl⟩) hK hZ hA hP hD hS [] [0, 1, 2, 3, 4, 5, 6] rfl rfl (by decide) (by decide) (by decide) rfl hl.1 (Nat.le_of_ble_eq_true rfl) ⟨Nat.le_of_ble_eq_true rfl, Nat.le_of_ble_eq_true rfl⟩ rfl dX1_away_32 (fun ce9 q9 u9 H locs hw9 hP hD hS hce hcv hcl => ?_) (fun u9 H locs hw9 hP hD hS => ?_)
      · skip
        have hx32 : true = false := hw9
        have hP : va_P G.1 CL (VTW G vh ph th svh hs9 ah bh lh rh fa9 rf9 de9 ++ PW G ph pd nr nc pL pG pB pk pa pt pm) _ := hP
        have hD : va_D A (VTW G vh ph th svh hs9 ah bh lh rh fa9 rf9 de9 ++ PW G ph pd nr nc pL pG pB pk pa pt pm) := hD
        exact absurd hx32 (by decide)
      refine W.widen (k := 1) (n := 6) (Nat.le_refl _) (Nat.le_refl _) ?_
      have hw32 : true = true := hw9
      have hP : va_P G.1 CL (VTW G vh ph th svh hs9 ah bh lh rh fa9 rf9 de9 ++ PW G ph pd nr nc pL pG pB pk pa pt pm) _ := hP
      have hD : va_D A (VTW G vh ph th svh hs9 ah bh lh rh fa9 rf9 de9 ++ PW G ph pd nr nc pL pG pB pk pa pt pm) := hD
      refine lv_iload_n hx hb dX1_away_35 rfl (lv_at hl 0 rfl) ?_
      subst hQ
      refine vx_ret ?_
      exact ret_i hx hb hr hlk (⟨pa, pt, pm⟩) ⟨(show oN 4 (awZ nr nc pL pG pB) = _ from oN_lt (by omega)), ⟨h49, hA0, hT0⟩⟩ hP hD hS rfl dX1_away_36
set_option maxHeartbeats 4000000 in
set_option maxRecDepth 100000 in
theorem m_X1_firstTurn (l : Launch) (G : GG) (vh : Nat) (ph : Nat) (th : Nat) (svh : Nat) (hs9 : Bool) (ah : Nat) (bh : Nat) (lh : Nat) (rh : Nat) (fa9 : Int32) (rf9 : Int32) (de9 : Int32) (pd : Nat → Nat) (nr : Nat) (nc : Nat) (pL : Nat → Nat) (pG : Nat → Nat) (pB : Nat → Bool) (pk : Nat → Int32) (pa : Nat → Nat) (pt : Nat → Nat) (pm : Nat) (hd : 2 ≤ nr ∧ nr ≤ 3 ∧ 2 ≤ nc ∧ nc ≤ 3) (hL : ∀ i, pL i < 65536) (hG : ∀ i, pG i < 65536) (hA0 : ∀ i, pa i < 65536) (hT0 : ∀ i, pt i < 100) (hst : l.stackTraces = false) : MX l G yX1_firstTurn cX1_firstTurn 2 (some .int) ⟨8, 1, 6, 176⟩ [.ref vh] (VTW G vh ph th svh hs9 ah bh lh rh fa9 rf9 de9 ++ PW G ph pd nr nc pL pG pB pk pa pt pm) (Qi_ G (fun (r : Int32) (u : (Nat → Nat) × (Nat → Nat) × (Nat)) => (r = nI (ftN nr nc pB pL pG ((awZ nr nc pL pG pB) - 1))) ∧ ((1 ≤ (awZ nr nc pL pG pB) ∧ (awZ nr nc pL pG pB) < 4) ∧ (∀ i, u.1 i < 65536) ∧ ∀ i, u.2.1 i < 100)) (fun (u : (Nat → Nat) × (Nat → Nat) × (Nat)) => (VTW G vh ph th svh hs9 ah bh lh rh fa9 rf9 de9 ++ PW G ph pd nr nc pL pG pB pk u.1 u.2.1 u.2.2))) (XQ G (fun (u : (Nat → Nat) × (Nat → Nat) × (Nat)) => RJ16) (fun (u : (Nat → Nat) × (Nat → Nat) × (Nat)) => (¬ (1 ≤ (awZ nr nc pL pG pB) ∧ (awZ nr nc pL pG pB) < 4)) ∧ (∀ i, u.1 i < 65536) ∧ ∀ i, u.2.1 i < 100) (fun (q9 : Nat) (u : (Nat → Nat) × (Nat → Nat) × (Nat)) => (VTW G vh ph th svh hs9 ah bh lh rh fa9 rf9 de9 ++ PW G ph pd nr nc pL pG pB pk u.1 u.2.1 u.2.2))) := by
  refine MX.of (by decide) (Nat.le_of_ble_eq_true rfl) ?_
  intro p e s m args below meth cd A C hini hA hK hZ hP hD hnt ls hl
  generalize hQ : vx_MQ below ((Qi_ G (fun (r : Int32) (u : (Nat → Nat) × (Nat → Nat) × (Nat)) => (r = nI (ftN nr nc pB pL pG ((awZ nr nc pL pG pB) - 1))) ∧ ((1 ≤ (awZ nr nc pL pG pB) ∧ (awZ nr nc pL pG pB) < 4) ∧ (∀ i, u.1 i < 65536) ∧ ∀ i, u.2.1 i < 100)) (fun (u : (Nat → Nat) × (Nat → Nat) × (Nat)) => (VTW G vh ph th svh hs9 ah bh lh rh fa9 rf9 de9 ++ PW G ph pd nr nc pL pG pB pk u.1 u.2.1 u.2.2))) A) ((XQ G (fun (u : (Nat → Nat) × (Nat → Nat) × (Nat)) => RJ16) (fun (u : (Nat → Nat) × (Nat → Nat) × (Nat)) => (¬ (1 ≤ (awZ nr nc pL pG pB) ∧ (awZ nr nc pL pG pB) < 4)) ∧ (∀ i, u.1 i < 65536) ∧ ∀ i, u.2.1 i < 100) (fun (q9 : Nat) (u : (Nat → Nat) × (Nat → Nat) × (Nat)) => (VTW G vh ph th svh hs9 ah bh lh rh fa9 rf9 de9 ++ PW G ph pd nr nc pL pG pB pk u.1 u.2.1 u.2.2))) A) args s (⟨8, 1, 6, 176⟩ : Room).cells (⟨8, 1, 6, 176⟩ : Room).slots A = Q
  obtain ⟨hx, hb, hr, hts, hown, hlk, hml⟩ := C
  have hown : s.vm.findClass RX1 = some m.cls := hown
  have hS : va_S A s.heap s.heap [] := va_S.rf
  have hl : lv_has ls 2 [(0, .ref vh)] := hl
  have hmu := dm_mul hd
  have ha9 : awZ nr nc pL pG pB ≤ 4 := awN_le _
  refine lv_aload_n hx hb dX1_firstTurn_0 rfl (lv_at hl 0 rfl) ?_
  refine va_get (D := G.1) (ci := 0) (v := .ref ph) (C := RX1) (T := TX1) (N := 11) hx hb hts in_X1 hown hK hP 0 rfl rfl 0 (by decide) (hts _ q428) (fun _ h9 => h9) rfl dX1_firstTurn_1 ?_
  refine callVi (As := []) (rest := []) (wc := (PW G ph pd nr nc pL pG pB pk pa pt pm)) (wr := (VTW G vh ph th svh hs9 ah bh lh rh fa9 rf9 de9)) ⟨hx, hb, hml, hown, hts⟩ (m_X2_away l G ph pd nr nc pL pG pB pk pa pt pm (by first | assumption | omega) (by first | assumption | omega) (by first | assumption | omega) (by first | assumption | omega) (by first | assumption | omega)) (cwV 0 hts (lw_V q1398 q1010 q1011 q89 q1012) rfl rfl rfl (by decide +kernel) ⟨Nat.le_of_ble_eq_true rfl, Nat.le_of_ble_eq_true rfl⟩) hK hZ hA hP hD hS [1, 2, 3, 4, 5, 6] [0] rfl rfl (by decide) (by decide) (by decide) 0 1 rfl rfl rfl hl.1 (Nat.le_of_ble_eq_true rfl) ⟨Nat.le_of_ble_eq_true rfl, Nat.le_of_ble_eq_true rfl⟩ rfl dX1_firstTurn_4 (fun r9 u9 H locs hw9 hP hD hS => ?_)
  obtain ⟨a1_1, t1_1, n1_1⟩ := u9
  obtain ⟨hr9, hw4⟩ := hw9
  subst hr9
  have hw4 : (∀ i, a1_1 i < 65536) ∧ ∀ i, t1_1 i < 100 := hw4
  have hP : va_P G.1 CL (VTW G vh ph th svh hs9 ah bh lh rh fa9 rf9 de9 ++ PW G ph pd nr nc pL pG pB pk a1_1 t1_1 n1_1) _ := hP
  have hD : va_D A (VTW G vh ph th svh hs9 ah bh lh rh fa9 rf9 de9 ++ PW G ph pd nr nc pL pG pB pk a1_1 t1_1 n1_1) := hD
  refine lv_istore_n (lv' := [(1, .int (oN 4 (awN (fun d => rch nr nc pB pG d pL)))), (0, .ref vh)]) hx hb dX1_firstTurn_7 rfl hl (by decide) rfl (fun ls hl => ?_)
  refine lv_iload_n hx hb dX1_firstTurn_8 rfl (lv_at hl 0 rfl) ?_
  refine lv_if_le (tgt := 16) hx hb dX1_firstTurn_9 (by decide) (fun c9 => ?_) (fun c9 => ?_)
  · skip
    have h49 : ¬ (1 ≤ (awZ nr nc pL pG pB) ∧ (awZ nr nc pL pG pB) < 4) := fun z => by
      have c8 : oN 4 (awZ nr nc pL pG pB) ≤ 0 := c9
      rw [oN_lt z.2] at c8
      have := (nI_leI (b := 0) (by omega) (by decide)).mp c8
      omega
    refine lv_iconst (v := nI 0) hx hb dX1_firstTurn_16 (by decide) ?_
    refine callXSv (As := [.int (nI 0)]) (rest := []) (wc := ([] : va_W)) (wr := (VTW G vh ph th svh hs9 ah bh lh rh fa9 rf9 de9 ++ PW G ph pd nr nc pL pG pB pk a1_1 t1_1 n1_1)) ⟨hx, hb, hml, hown, hts⟩ (m_X1_checkElement l G false (by first | assumption | omega)) (va_cwS 1 hts (lw_S q1348 q1349 q88 q1350) rfl rfl rfl (by decide +kernel) ⟨Nat.le_of_ble_eq_true rfl, Nat.le_of_ble_eq_true rfl⟩) hK hZ hA hP hD hS [] [0, 1, 2, 3, 4, 5, 6] rfl rfl (by decide) (by decide) (by decide) rfl hl.1 (Nat.le_of_ble_eq_true rfl) ⟨Nat.le_of_ble_eq_true rfl, Nat.le_of_ble_eq_true rfl⟩ rfl dX1_firstTurn_17 (fun ce9 q9 u9 H locs hw9 hP hD hS hce hcv hcl => ?_) (fun u9 H locs hw9 hP hD hS => ?_)
    · skip
      have hx17 : false = false := hw9
      have hP : va_P G.1 CL (VTW G vh ph th svh hs9 ah bh lh rh fa9 rf9 de9 ++ PW G ph pd nr nc pL pG pB pk a1_1 t1_1 n1_1) _ := hP
      have hD : va_D A (VTW G vh ph th svh hs9 ah bh lh rh fa9 rf9 de9 ++ PW G ph pd nr nc pL pG pB pk a1_1 t1_1 n1_1) := hD
      have hcl : s.vm.findClass RJ16 = some ce9.cls := hcl
      subst hQ
      refine vx_widen (k := 1) (n := 6) (Nat.le_of_ble_eq_true rfl) (Nat.le_of_ble_eq_true rfl) ?_
      exact out_x (by rw [hnt]; exact fun x9 hx9 => nomatch hx9) hlk ⟨a1_1, t1_1, n1_1⟩ ⟨h49, hw4⟩ hP hD hS hce hcv hcl (Nat.le_refl _) (Nat.le_refl _)
    refine W.widen (k := 1) (n := 6) (Nat.le_refl _) (Nat.le_refl _) ?_
    have hw17 : false = true := hw9
    have hP : va_P G.1 CL (VTW G vh ph th svh hs9 ah bh lh rh fa9 rf9 de9 ++ PW G ph pd nr nc pL pG pB pk a1_1 t1_1 n1_1) _ := hP
    have hD : va_D A (VTW G vh ph th svh hs9 ah bh lh rh fa9 rf9 de9 ++ PW G ph pd nr nc pL pG pB pk a1_1 t1_1 n1_1) := hD
    exact absurd hw17 (by decide)
  · skip
    have h49 : 1 ≤ (awZ nr nc pL pG pB) ∧ (awZ nr nc pL pG pB) < 4 := by
      have c8 : ¬ oN 4 (awZ nr nc pL pG pB) ≤ 0 := c9
      by_cases h4 : (awZ nr nc pL pG pB) < 4
      · rw [oN_lt h4] at c8; exact ⟨Nat.pos_of_ne_zero (fun z => c8 (by rw [z]; decide)), h4⟩
      · rw [oN_ge h4] at c8; exact absurd (by decide) c8
    refine lv_iconst (v := nI 1) hx hb dX1_firstTurn_12 (by decide) ?_
    refine lv_goto (tgt := 17) hx hb dX1_firstTurn_13 (by decide) ?_
    refine callXSv (As := [.int (nI 1)]) (rest := []) (wc := ([] : va_W)) (wr := (VTW G vh ph th svh hs9 ah bh lh rh fa9 rf9 de9 ++ PW G ph pd nr nc pL pG pB pk a1_1 t1_1 n1_1)) ⟨hx, hb, hml, hown, hts⟩ (m_X1_checkElement l G true (by first | assumption | omega)) (va_cwS 1 hts (lw_S q1348 q1349 q88 q1350) rfl rfl rfl (by decide +kernel) ⟨Nat.le_of_ble_eq_true rfl, Nat.le_of_ble_eq_true rfl⟩) hK hZ hA hP hD hS [] [0, 1, 2, 3, 4, 5, 6] rfl rfl (by decide) (by decide) (by decide) rfl hl.1 (Nat.le_of_ble_eq_true rfl) ⟨Nat.le_of_ble_eq_true rfl, Nat.le_of_ble_eq_true rfl⟩ rfl dX1_firstTurn_17 (fun ce9 q9 u9 H locs hw9 hP hD hS hce hcv hcl => ?_) (fun u9 H locs hw9 hP hD hS => ?_)
    · skip
      have hx17 : true = false := hw9
      have hP : va_P G.1 CL (VTW G vh ph th svh hs9 ah bh lh rh fa9 rf9 de9 ++ PW G ph pd nr nc pL pG pB pk a1_1 t1_1 n1_1) _ := hP
      have hD : va_D A (VTW G vh ph th svh hs9 ah bh lh rh fa9 rf9 de9 ++ PW G ph pd nr nc pL pG pB pk a1_1 t1_1 n1_1) := hD
      exact absurd hx17 (by decide)
    refine W.widen (k := 1) (n := 6) (Nat.le_refl _) (Nat.le_refl _) ?_
    have hw17 : true = true := hw9
    have hP : va_P G.1 CL (VTW G vh ph th svh hs9 ah bh lh rh fa9 rf9 de9 ++ PW G ph pd nr nc pL pG pB pk a1_1 t1_1 n1_1) _ := hP
    have hD : va_D A (VTW G vh ph th svh hs9 ah bh lh rh fa9 rf9 de9 ++ PW G ph pd nr nc pL pG pB pk a1_1 t1_1 n1_1) := hD
    refine lv_aload_n hx hb dX1_firstTurn_20 rfl (lv_at hl 1 rfl) ?_
    refine va_get (D := G.1) (ci := 0) (v := .ref ph) (C := RX1) (T := TX1) (N := 11) hx hb hts in_X1 hown hK hP 0 rfl rfl 0 (by decide) (hts _ q428) (fun _ h9 => h9) rfl dX1_firstTurn_21 ?_
    refine lv_iload_n hx hb dX1_firstTurn_24 rfl (lv_at hl 0 rfl) ?_
    rcases (show (awZ nr nc pL pG pB) = 1 ∨ (awZ nr nc pL pG pB) = 2 ∨ (awZ nr nc pL pG pB) = 3 by omega) with hd9 | hd9 | hd9
    · skip
      refine eq_i (y := nI 1) (show oN 4 (awZ nr nc pL pG pB) = _ by rw [hd9]; rfl) ?_
      refine callVi (As := [.int (nI 1)]) (rest := []) (wc := (PW G ph pd nr nc pL pG pB pk a1_1 t1_1 n1_1)) (wr := (VTW G vh ph th svh hs9 ah bh lh rh fa9 rf9 de9)) ⟨hx, hb, hml, hown, hts⟩ (m_X2_firstTurn__1 l G ph pd nr nc pL pG pB pk a1_1 t1_1 n1_1 (by first | assumption | omega) (by first | assumption | omega) (by first | assumption | omega)) (cwV 1 hts (lw_V q1406 q1345 q1346 q89 q1347) rfl rfl rfl (by decide +kernel) ⟨Nat.le_of_ble_eq_true rfl, Nat.le_of_ble_eq_true rfl⟩) hK hZ hA hP hD hS [1, 2, 3, 4, 5, 6] [0] rfl rfl (by decide) (by decide) (by decide) 0 1 rfl rfl rfl hl.1 (Nat.le_of_ble_eq_true rfl) ⟨Nat.le_of_ble_eq_true rfl, Nat.le_of_ble_eq_true rfl⟩ rfl dX1_firstTurn_25 (fun r9 u9 H locs hw9 hP hD hS => ?_)
      subst hw9
      have hP : va_P G.1 CL (VTW G vh ph th svh hs9 ah bh lh rh fa9 rf9 de9 ++ PW G ph pd nr nc pL pG pB pk a1_1 t1_1 n1_1) _ := hP
      have hD : va_D A (VTW G vh ph th svh hs9 ah bh lh rh fa9 rf9 de9 ++ PW G ph pd nr nc pL pG pB pk a1_1 t1_1 n1_1) := hD
      subst hQ
      refine vx_ret ?_
      exact ret_i hx hb hr hlk (⟨a1_1, t1_1, n1_1⟩) ⟨(by have h9 := ft_lt (L := pL) (K := pG) (B := pB) (show 0 < nr + nc by omega) h49.1 h49.2; rw [hd9] at h9 ⊢; exact oN_lt h9), ⟨h49, hw4⟩⟩ hP hD hS rfl dX1_firstTurn_28
    · skip
      refine eq_i (y := nI 2) (show oN 4 (awZ nr nc pL pG pB) = _ by rw [hd9]; rfl) ?_
      refine callVi (As := [.int (nI 2)]) (rest := []) (wc := (PW G ph pd nr nc pL pG pB pk a1_1 t1_1 n1_1)) (wr := (VTW G vh ph th svh hs9 ah bh lh rh fa9 rf9 de9)) ⟨hx, hb, hml, hown, hts⟩ (m_X2_firstTurn__2 l G ph pd nr nc pL pG pB pk a1_1 t1_1 n1_1 (by first | assumption | omega) (by first | assumption | omega) (by first | assumption | omega)) (cwV 1 hts (lw_V q1406 q1345 q1346 q89 q1347) rfl rfl rfl (by decide +kernel) ⟨Nat.le_of_ble_eq_true rfl, Nat.le_of_ble_eq_true rfl⟩) hK hZ hA hP hD hS [1, 2, 3, 4, 5, 6] [0] rfl rfl (by decide) (by decide) (by decide) 0 1 rfl rfl rfl hl.1 (Nat.le_of_ble_eq_true rfl) ⟨Nat.le_of_ble_eq_true rfl, Nat.le_of_ble_eq_true rfl⟩ rfl dX1_firstTurn_25 (fun r9 u9 H locs hw9 hP hD hS => ?_)
      subst hw9
      have hP : va_P G.1 CL (VTW G vh ph th svh hs9 ah bh lh rh fa9 rf9 de9 ++ PW G ph pd nr nc pL pG pB pk a1_1 t1_1 n1_1) _ := hP
      have hD : va_D A (VTW G vh ph th svh hs9 ah bh lh rh fa9 rf9 de9 ++ PW G ph pd nr nc pL pG pB pk a1_1 t1_1 n1_1) := hD
      subst hQ
      refine vx_ret ?_
      exact ret_i hx hb hr hlk (⟨a1_1, t1_1, n1_1⟩) ⟨(by have h9 := ft_lt (L := pL) (K := pG) (B := pB) (show 0 < nr + nc by omega) h49.1 h49.2; rw [hd9] at h9 ⊢; exact oN_lt h9), ⟨h49, hw4⟩⟩ hP hD hS rfl dX1_firstTurn_28
    · skip
      refine eq_i (y := nI 3) (show oN 4 (awZ nr nc pL pG pB) = _ by rw [hd9]; rfl) ?_
      refine callVi (As := [.int (nI 3)]) (rest := []) (wc := (PW G ph pd nr nc pL pG pB pk a1_1 t1_1 n1_1)) (wr := (VTW G vh ph th svh hs9 ah bh lh rh fa9 rf9 de9)) ⟨hx, hb, hml, hown, hts⟩ (m_X2_firstTurn__3 l G ph pd nr nc pL pG pB pk a1_1 t1_1 n1_1 (by first | assumption | omega) (by first | assumption | omega) (by first | assumption | omega)) (cwV 1 hts (lw_V q1406 q1345 q1346 q89 q1347) rfl rfl rfl (by decide +kernel) ⟨Nat.le_of_ble_eq_true rfl, Nat.le_of_ble_eq_true rfl⟩) hK hZ hA hP hD hS [1, 2, 3, 4, 5, 6] [0] rfl rfl (by decide) (by decide) (by decide) 0 1 rfl rfl rfl hl.1 (Nat.le_of_ble_eq_true rfl) ⟨Nat.le_of_ble_eq_true rfl, Nat.le_of_ble_eq_true rfl⟩ rfl dX1_firstTurn_25 (fun r9 u9 H locs hw9 hP hD hS => ?_)
      subst hw9
      have hP : va_P G.1 CL (VTW G vh ph th svh hs9 ah bh lh rh fa9 rf9 de9 ++ PW G ph pd nr nc pL pG pB pk a1_1 t1_1 n1_1) _ := hP
      have hD : va_D A (VTW G vh ph th svh hs9 ah bh lh rh fa9 rf9 de9 ++ PW G ph pd nr nc pL pG pB pk a1_1 t1_1 n1_1) := hD
      subst hQ
      refine vx_ret ?_
      exact ret_i hx hb hr hlk (⟨a1_1, t1_1, n1_1⟩) ⟨(by have h9 := ft_lt (L := pL) (K := pG) (B := pB) (show 0 < nr + nc by omega) h49.1 h49.2; rw [hd9] at h9 ⊢; exact oN_lt h9), ⟨h49, hw4⟩⟩ hP hD hS rfl dX1_firstTurn_28
set_option maxHeartbeats 4000000 in
set_option maxRecDepth 100000 in
theorem m_X1_isOdd (l : Launch) (G : GG) (vh : Nat) (ph : Nat) (th : Nat) (svh : Nat) (hs9 : Bool) (ah : Nat) (bh : Nat) (lh : Nat) (rh : Nat) (fa9 : Int32) (rf9 : Int32) (de9 : Int32) (pd : Nat → Nat) (nr : Nat) (nc : Nat) (pL : Nat → Nat) (pG : Nat → Nat) (pB : Nat → Bool) (pk : Nat → Int32) (pa : Nat → Nat) (pt : Nat → Nat) (pm : Nat) (az : Bool) (hd : 2 ≤ nr ∧ nr ≤ 3 ∧ 2 ≤ nc ∧ nc ≤ 3) (hL : ∀ i, pL i < 65536) (hG : ∀ i, pG i < 65536) (hLR : ∀ q, q < nr * nc → 97 ≤ pL q ∧ pL q ≤ 108) (hKR : ∀ q, q < nr * nc → pG q = 46 ∨ (97 ≤ pG q ∧ pG q ≤ 108)) (hst : l.stackTraces = false) : MX l G yX1_isOdd cX1_isOdd 2 (some .boolean) ⟨7, 2, 15, 101⟩ [.ref vh, .int (bI az)] (VTW G vh ph th svh hs9 ah bh lh rh fa9 rf9 de9 ++ PW G ph pd nr nc pL pG pB pk pa pt pm) (Qi_ G (fun (r : Int32) (_ : Unit) => (r = bI (if az = true then iv (hoN (nr * nc) pL pG) (nr * nc) else odN (hoN (nr * nc) pL pG) (nr * nc))) ∧ (pry pL pG (nr * nc) 0 = true)) (fun (_ : Unit) => (VTW G vh ph th svh hs9 ah bh lh rh fa9 rf9 de9 ++ PW G ph pd nr nc pL pG pB pk pa pt pm))) (XQ G (fun (_ : Unit) => RJ16) (fun (_ : Unit) => pry pL pG (nr * nc) 0 = false) (fun (q9 : Nat) (_ : Unit) => (VTW G vh ph th svh hs9 ah bh lh rh fa9 rf9 de9 ++ PW G ph pd nr nc pL pG pB pk pa pt pm))) := by
  refine MX.of (by decide) (Nat.le_of_ble_eq_true rfl) ?_
  intro p e s m args below meth cd A C hini hA hK hZ hP hD hnt ls hl
  generalize hQ : vx_MQ below ((Qi_ G (fun (r : Int32) (_ : Unit) => (r = bI (if az = true then iv (hoN (nr * nc) pL pG) (nr * nc) else odN (hoN (nr * nc) pL pG) (nr * nc))) ∧ (pry pL pG (nr * nc) 0 = true)) (fun (_ : Unit) => (VTW G vh ph th svh hs9 ah bh lh rh fa9 rf9 de9 ++ PW G ph pd nr nc pL pG pB pk pa pt pm))) A) ((XQ G (fun (_ : Unit) => RJ16) (fun (_ : Unit) => pry pL pG (nr * nc) 0 = false) (fun (q9 : Nat) (_ : Unit) => (VTW G vh ph th svh hs9 ah bh lh rh fa9 rf9 de9 ++ PW G ph pd nr nc pL pG pB pk pa pt pm))) A) args s (⟨7, 2, 15, 101⟩ : Room).cells (⟨7, 2, 15, 101⟩ : Room).slots A = Q
  obtain ⟨hx, hb, hr, hts, hown, hlk, hml⟩ := C
  have hown : s.vm.findClass RX1 = some m.cls := hown
  have hS : va_S A s.heap s.heap [] := va_S.rf
  have hl : lv_has ls 2 [(0, .ref vh), (1, .int (bI az))] := hl
  have hmu := dm_mul hd
  refine lv_aload_n hx hb dX1_isOdd_0 rfl (lv_at hl 0 rfl) ?_
  refine va_get (D := G.1) (ci := 0) (v := .ref ph) (C := RX1) (T := TX1) (N := 11) hx hb hts in_X1 hown hK hP 0 rfl rfl 0 (by decide) (hts _ q428) (fun _ h9 => h9) rfl dX1_isOdd_1 ?_
  refine lv_iconst (v := nI 0) hx hb dX1_isOdd_4 (by decide) ?_
  refine callVi (As := [.int (nI 0)]) (rest := []) (wc := (PW G ph pd nr nc pL pG pB pk pa pt pm)) (wr := (VTW G vh ph th svh hs9 ah bh lh rh fa9 rf9 de9)) ⟨hx, hb, hml, hown, hts⟩ (m_X2_hasParity l G ph pd nr nc pL pG pB pk pa pt pm 0 (by first | assumption | omega) (by first | assumption | omega) (by first | assumption | omega) (by first | assumption | omega)) (cwV 1 hts (lw_V q1414 q482 q483 q89 q484) rfl rfl rfl (by decide +kernel) ⟨Nat.le_of_ble_eq_true rfl, Nat.le_of_ble_eq_true rfl⟩) hK hZ hA hP hD hS [1, 2, 3, 4, 5, 6] [0] rfl rfl (by decide) (by decide) (by decide) 0 1 rfl rfl rfl hl.1 (Nat.le_of_ble_eq_true rfl) ⟨Nat.le_of_ble_eq_true rfl, Nat.le_of_ble_eq_true rfl⟩ rfl dX1_isOdd_5 (fun r9 u9 H locs hw9 hP hD hS => ?_)
  subst hw9
  have hP : va_P G.1 CL (VTW G vh ph th svh hs9 ah bh lh rh fa9 rf9 de9 ++ PW G ph pd nr nc pL pG pB pk pa pt pm) _ := hP
  have hD : va_D A (VTW G vh ph th svh hs9 ah bh lh rh fa9 rf9 de9 ++ PW G ph pd nr nc pL pG pB pk pa pt pm) := hD
  refine callXSv (As := [.int (bI (pry pL pG (nr * nc) 0))]) (rest := []) (wc := ([] : va_W)) (wr := (VTW G vh ph th svh hs9 ah bh lh rh fa9 rf9 de9 ++ PW G ph pd nr nc pL pG pB pk pa pt pm)) ⟨hx, hb, hml, hown, hts⟩ (m_X1_checkElement l G (pry pL pG (nr * nc) 0) (by first | assumption | omega)) (va_cwS 1 hts (lw_S q1348 q1349 q88 q1350) rfl rfl rfl (by decide +kernel) ⟨Nat.le_of_ble_eq_true rfl, Nat.le_of_ble_eq_true rfl⟩) hK hZ hA hP hD hS [] [0, 1, 2, 3, 4, 5, 6] rfl rfl (by decide) (by decide) (by decide) rfl hl.1 (Nat.le_of_ble_eq_true rfl) ⟨Nat.le_of_ble_eq_true rfl, Nat.le_of_ble_eq_true rfl⟩ rfl dX1_isOdd_8 (fun ce9 q9 u9 H locs hw9 hP hD hS hce hcv hcl => ?_) (fun u9 H locs hw9 hP hD hS => ?_)
  · skip
    have hx8 : (pry pL pG (nr * nc) 0) = false := hw9
    have hP : va_P G.1 CL (VTW G vh ph th svh hs9 ah bh lh rh fa9 rf9 de9 ++ PW G ph pd nr nc pL pG pB pk pa pt pm) _ := hP
    have hD : va_D A (VTW G vh ph th svh hs9 ah bh lh rh fa9 rf9 de9 ++ PW G ph pd nr nc pL pG pB pk pa pt pm) := hD
    have hcl : s.vm.findClass RJ16 = some ce9.cls := hcl
    subst hQ
    refine vx_widen (k := 2) (n := 15) (Nat.le_of_ble_eq_true rfl) (Nat.le_of_ble_eq_true rfl) ?_
    exact out_x (by rw [hnt]; exact fun x9 hx9 => nomatch hx9) hlk () hx8 hP hD hS hce hcv hcl (Nat.le_refl _) (Nat.le_refl _)
  refine W.widen (k := 1) (n := 6) (Nat.le_refl _) (Nat.le_refl _) ?_
  have hw8 : (pry pL pG (nr * nc) 0) = true := hw9
  have hP : va_P G.1 CL (VTW G vh ph th svh hs9 ah bh lh rh fa9 rf9 de9 ++ PW G ph pd nr nc pL pG pB pk pa pt pm) _ := hP
  have hD : va_D A (VTW G vh ph th svh hs9 ah bh lh rh fa9 rf9 de9 ++ PW G ph pd nr nc pL pG pB pk pa pt pm) := hD
  refine lv_iload_n hx hb dX1_isOdd_11 rfl (lv_at hl 1 rfl) ?_
  refine b_if_eq (tgt := 25) hx hb dX1_isOdd_12 (by decide) (fun c12 => ?_) (fun c12 => ?_)
  · skip
    refine lv_aload_n hx hb dX1_isOdd_25 rfl (lv_at hl 0 rfl) ?_
    refine va_get (D := G.1) (ci := 0) (v := .ref ph) (C := RX1) (T := TX1) (N := 11) hx hb hts in_X1 hown hK hP 0 rfl rfl 0 (by decide) (hts _ q428) (fun _ h9 => h9) rfl dX1_isOdd_26 ?_
    refine callVi (As := []) (rest := []) (wc := (PW G ph pd nr nc pL pG pB pk pa pt pm)) (wr := (VTW G vh ph th svh hs9 ah bh lh rh fa9 rf9 de9)) ⟨hx, hb, hml, hown, hts⟩ (m_X2_isOdd l G ph pd nr nc pL pG pB pk pa pt pm (by first | assumption | omega) (by first | assumption | omega) (by first | assumption | omega) (ho_lt (by omega) hLR hKR (pry_01 hw8))) (cwV 0 hts (lw_V q1416 q494 q495 q89 q496) rfl rfl rfl (by decide +kernel) ⟨Nat.le_of_ble_eq_true rfl, Nat.le_of_ble_eq_true rfl⟩) hK hZ hA hP hD hS [1, 2, 3, 4, 5, 6] [0] rfl rfl (by decide) (by decide) (by decide) 0 1 rfl rfl rfl hl.1 (Nat.le_of_ble_eq_true rfl) ⟨Nat.le_of_ble_eq_true rfl, Nat.le_of_ble_eq_true rfl⟩ rfl dX1_isOdd_29 (fun r9 u9 H locs hw9 hP hD hS => ?_)
    refine W.widen (k := 2) (n := 15) (Nat.le_refl _) (Nat.le_refl _) ?_
    subst hw9
    have hP : va_P G.1 CL (VTW G vh ph th svh hs9 ah bh lh rh fa9 rf9 de9 ++ PW G ph pd nr nc pL pG pB pk pa pt pm) _ := hP
    have hD : va_D A (VTW G vh ph th svh hs9 ah bh lh rh fa9 rf9 de9 ++ PW G ph pd nr nc pL pG pB pk pa pt pm) := hD
    subst hQ
    refine vx_ret ?_
    exact ret_i hx hb hr hlk () ⟨(congrArg bI (if_neg (by rw [c12]; decide)).symm), hw8⟩ hP hD hS (bI_nar _) dX1_isOdd_32
  · skip
    refine lv_aload_n hx hb dX1_isOdd_15 rfl (lv_at hl 0 rfl) ?_
    refine va_get (D := G.1) (ci := 0) (v := .ref ph) (C := RX1) (T := TX1) (N := 11) hx hb hts in_X1 hown hK hP 0 rfl rfl 0 (by decide) (hts _ q428) (fun _ h9 => h9) rfl dX1_isOdd_16 ?_
    refine callVi (As := []) (rest := []) (wc := (PW G ph pd nr nc pL pG pB pk pa pt pm)) (wr := (VTW G vh ph th svh hs9 ah bh lh rh fa9 rf9 de9)) ⟨hx, hb, hml, hown, hts⟩ (m_X2_isOddAgain l G ph pd nr nc pL pG pB pk pa pt pm (by first | assumption | omega) (by first | assumption | omega) (by first | assumption | omega) (ho_lt (by omega) hLR hKR (pry_01 hw8))) (cwV 0 hts (lw_V q1415 q1086 q1087 q89 q1088) rfl rfl rfl (by decide +kernel) ⟨Nat.le_of_ble_eq_true rfl, Nat.le_of_ble_eq_true rfl⟩) hK hZ hA hP hD hS [1, 2, 3, 4, 5, 6] [0] rfl rfl (by decide) (by decide) (by decide) 0 1 rfl rfl rfl hl.1 (Nat.le_of_ble_eq_true rfl) ⟨Nat.le_of_ble_eq_true rfl, Nat.le_of_ble_eq_true rfl⟩ rfl dX1_isOdd_19 (fun r9 u9 H locs hw9 hP hD hS => ?_)
    subst hw9
    have hP : va_P G.1 CL (VTW G vh ph th svh hs9 ah bh lh rh fa9 rf9 de9 ++ PW G ph pd nr nc pL pG pB pk pa pt pm) _ := hP
    have hD : va_D A (VTW G vh ph th svh hs9 ah bh lh rh fa9 rf9 de9 ++ PW G ph pd nr nc pL pG pB pk pa pt pm) := hD
    refine lv_goto (tgt := 32) hx hb dX1_isOdd_22 (by decide) ?_
    subst hQ
    refine W.widen (k := 2) (n := 15) (Nat.le_of_ble_eq_true rfl) (Nat.le_of_ble_eq_true rfl) ?_
    refine vx_ret ?_
    exact ret_i hx hb hr hlk () ⟨(congrArg bI (if_pos c12).symm), hw8⟩ hP hD hS (bI_nar _) dX1_isOdd_32
set_option maxHeartbeats 4000000 in
set_option maxRecDepth 100000 in
theorem m_X1_lineText (l : Launch) (G : GG) (vh : Nat) (ph : Nat) (th : Nat) (svh : Nat) (hs9 : Bool) (ah : Nat) (bh : Nat) (lh : Nat) (rh : Nat) (fa9 : Int32) (rf9 : Int32) (de9 : Int32) (pd : Nat → Nat) (nr : Nat) (nc : Nat) (pL : Nat → Nat) (pG : Nat → Nat) (pB : Nat → Bool) (pk : Nat → Int32) (pa : Nat → Nat) (pt : Nat → Nat) (pm : Nat) (lz : SBZ) (pa0 : Int32) (ls9 : List Nat) (hd : 2 ≤ nr ∧ nr ≤ 3 ∧ 2 ≤ nc ∧ nc ≤ 3) (hL : ∀ i, pL i < 65536) (hz : SBh lz ls9) (hst : l.stackTraces = false) : MX l G yX1_lineText cX1_lineText 2 (some .int) ⟨9, 11, 2456, 202⟩ [.ref vh, .int pa0] (VTW G vh ph th svh hs9 ah bh lh rh fa9 rf9 de9 ++ PW G ph pd nr nc pL pG pB pk pa pt pm ++ SBB G lh lz) (Qi_ G (fun (r : Int32) (u : (SBZ)) => (r = nI ((lineX nr nc pL pB (cl_ pa0)).length)) ∧ (isIx pa0 (nr + nc) = true ∧ SBh u (lineX nr nc pL pB (cl_ pa0)))) (fun (u : (SBZ)) => (VTW G vh ph th svh hs9 ah bh lh rh fa9 rf9 de9 ++ PW G ph pd nr nc pL pG pB pk pa pt pm ++ SBB G lh u))) (XQ G (fun (_ : Unit) => RJ13) (fun (_ : Unit) => isIx pa0 (nr + nc) = false) (fun (q9 : Nat) (_ : Unit) => (VTW G vh ph th svh hs9 ah bh lh rh fa9 rf9 de9 ++ PW G ph pd nr nc pL pG pB pk pa pt pm ++ SBB G lh lz))) := by
  refine MX.of (by decide) (Nat.le_of_ble_eq_true rfl) ?_
  intro p e s m args below meth cd A C hini hA hK hZ hP hD hnt ls hl
  generalize hQ : vx_MQ below ((Qi_ G (fun (r : Int32) (u : (SBZ)) => (r = nI ((lineX nr nc pL pB (cl_ pa0)).length)) ∧ (isIx pa0 (nr + nc) = true ∧ SBh u (lineX nr nc pL pB (cl_ pa0)))) (fun (u : (SBZ)) => (VTW G vh ph th svh hs9 ah bh lh rh fa9 rf9 de9 ++ PW G ph pd nr nc pL pG pB pk pa pt pm ++ SBB G lh u))) A) ((XQ G (fun (_ : Unit) => RJ13) (fun (_ : Unit) => isIx pa0 (nr + nc) = false) (fun (q9 : Nat) (_ : Unit) => (VTW G vh ph th svh hs9 ah bh lh rh fa9 rf9 de9 ++ PW G ph pd nr nc pL pG pB pk pa pt pm ++ SBB G lh lz))) A) args s (⟨9, 11, 2456, 202⟩ : Room).cells (⟨9, 11, 2456, 202⟩ : Room).slots A = Q
  obtain ⟨hx, hb, hr, hts, hown, hlk, hml⟩ := C
  have hown : s.vm.findClass RX1 = some m.cls := hown
  have hS : va_S A s.heap s.heap [] := va_S.rf
  have hl : lv_has ls 2 [(0, .ref vh), (1, .int pa0)] := hl
  have hmu := dm_mul hd
  refine lv_aload_n hx hb dX1_lineText_0 rfl (lv_at hl 0 rfl) ?_
  refine lv_iload_n hx hb dX1_lineText_1 rfl (lv_at hl 1 rfl) ?_
  refine callXVv (As := [.int pa0]) (rest := []) (wc := (VTW G vh ph th svh hs9 ah bh lh rh fa9 rf9 de9 ++ PW G ph pd nr nc pL pG pB pk pa pt pm)) (wr := (SBB G lh lz)) ⟨hx, hb, hml, hown, hts⟩ (m_X1_checkLine l G vh ph th svh hs9 ah bh lh rh fa9 rf9 de9 pd nr nc pL pG pB pk pa pt pm pa0 (by first | assumption | omega) (by first | assumption | omega)) (cwV 1 hts (lw_V q1306 q1308 qs22 q88 q1309) rfl rfl rfl (by decide +kernel) ⟨Nat.le_of_ble_eq_true rfl, Nat.le_of_ble_eq_true rfl⟩) hK hZ hA hP hD hS [0, 1, 2, 3, 4, 5, 6] [7, 8] rfl rfl (by decide) (by decide) (by decide) 0 0 rfl rfl rfl hl.1 (Nat.le_of_ble_eq_true rfl) ⟨Nat.le_of_ble_eq_true rfl, Nat.le_of_ble_eq_true rfl⟩ rfl dX1_lineText_2 (fun ce9 q9 u9 H locs hw9 hP hD hS hce hcv hcl => ?_) (fun u9 H locs hw9 hP hD hS => ?_)
  · skip
    have hx2 : isIx pa0 (nr + nc) = false := hw9
    obtain ⟨hP, hD⟩ := re_PD (w := (VTW G vh ph th svh hs9 ah bh lh rh fa9 rf9 de9 ++ PW G ph pd nr nc pL pG pB pk pa pt pm ++ SBB G lh lz)) hP hD [2, 3, 4, 5, 6, 7, 8, 0, 1] (by decide) rfl
    have hcl : s.vm.findClass RJ13 = some ce9.cls := hcl
    subst hQ
    refine vx_widen (k := 11) (n := 2456) (Nat.le_of_ble_eq_true rfl) (Nat.le_of_ble_eq_true rfl) ?_
    exact out_x (by rw [hnt]; exact fun x9 hx9 => nomatch hx9) hlk () hx2 hP hD hS hce hcv hcl (Nat.le_refl _) (Nat.le_refl _)
  refine W.widen (k := 1) (n := 6) (Nat.le_refl _) (Nat.le_refl _) ?_
  have hw2 : isIx pa0 (nr + nc) = true := hw9
  obtain ⟨hP, hD⟩ := re_PD (w := (VTW G vh ph th svh hs9 ah bh lh rh fa9 rf9 de9 ++ PW G ph pd nr nc pL pG pB pk pa pt pm ++ SBB G lh lz)) hP hD [2, 3, 4, 5, 6, 7, 8, 0, 1] (by decide) rfl
  obtain ⟨pp, pp1, rfl⟩ := isIx_t hw2 (by omega)
  refine lv_aload_n hx hb dX1_lineText_5 rfl (lv_at hl 0 rfl) ?_
  refine va_get (D := G.1) (ci := 0) (v := .ref lh) (C := RX1) (T := TX1) (N := 11) hx hb hts in_X1 hown hK hP 0 rfl rfl 6 (by decide) (hts _ q434) (fun _ h9 => h9) rfl dX1_lineText_6 ?_
  refine lv_iconst (v := nI 0) hx hb dX1_lineText_9 (by decide) ?_
  refine callVv (As := [.int (nI 0)]) (rest := []) (wc := (SBB G lh lz)) (wr := (VTW G vh ph th svh hs9 ah bh lh rh fa9 rf9 de9 ++ PW G ph pd nr nc pL pG pB pk pa pt pm)) ⟨hx, hb, hml, hown, hts⟩ (m_J3_setLength l G lh lz ls9 (by first | assumption | omega)) (cwV 1 hts (lw_V q681 q682 q683 q94 q684) rfl rfl rfl (by decide +kernel) ⟨Nat.le_of_ble_eq_true rfl, Nat.le_of_ble_eq_true rfl⟩) hK hZ hA hP hD hS [7, 8] [0, 1, 2, 3, 4, 5, 6] rfl rfl (by decide) (by decide) (by decide) 0 9 rfl rfl rfl hl.1 (Nat.le_of_ble_eq_true rfl) ⟨Nat.le_of_ble_eq_true rfl, Nat.le_of_ble_eq_true rfl⟩ rfl dX1_lineText_10 (fun u9 H locs hw9 hP hD hS => ?_)
  obtain ⟨z2_3, e9⟩ : ∃ z, z = u9 := ⟨_, rfl⟩
  subst e9
  have hz10 : SBh z2_3 [] := hw9
  have hP : va_P G.1 CL (VTW G vh ph th svh hs9 ah bh lh rh fa9 rf9 de9 ++ PW G ph pd nr nc pL pG pB pk pa pt pm ++ SBB G lh z2_3) _ := hP
  have hD : va_D A (VTW G vh ph th svh hs9 ah bh lh rh fa9 rf9 de9 ++ PW G ph pd nr nc pL pG pB pk pa pt pm ++ SBB G lh z2_3) := hD
  refine lv_aload_n hx hb dX1_lineText_13 rfl (lv_at hl 0 rfl) ?_
  refine va_get (D := G.1) (ci := 0) (v := .ref ph) (C := RX1) (T := TX1) (N := 11) hx hb hts in_X1 hown hK hP 0 rfl rfl 0 (by decide) (hts _ q428) (fun _ h9 => h9) rfl dX1_lineText_14 ?_
  refine lv_aload_n hx hb dX1_lineText_17 rfl (lv_at hl 0 rfl) ?_
  refine va_get (D := G.1) (ci := 0) (v := .ref lh) (C := RX1) (T := TX1) (N := 11) hx hb hts in_X1 hown hK hP 0 rfl rfl 6 (by decide) (hts _ q434) (fun _ h9 => h9) rfl dX1_lineText_18 ?_
  refine lv_iload_n hx hb dX1_lineText_21 rfl (lv_at hl 1 rfl) ?_
  refine callVv (As := [.ref lh, .int (nI pp)]) (rest := []) (wc := (PW G ph pd nr nc pL pG pB pk pa pt pm ++ SBB G lh z2_3)) (wr := (VTW G vh ph th svh hs9 ah bh lh rh fa9 rf9 de9)) ⟨hx, hb, hml, hown, hts⟩ (m_X2_writesLine l G ph pd nr nc pL pG pB pk pa pt pm lh z2_3 pp (by first | assumption | omega) (by first | assumption | omega) (by first | assumption | omega) hz10) (cwV 2 hts (lw_V q1503 q1504 q1505 q89 q1506) rfl rfl rfl (by decide +kernel) ⟨Nat.le_of_ble_eq_true rfl, Nat.le_of_ble_eq_true rfl⟩) hK hZ hA hP hD hS [1, 2, 3, 4, 5, 6, 7, 8] [0] rfl rfl (by decide) (by decide) (by decide) 0 1 rfl rfl rfl hl.1 (Nat.le_of_ble_eq_true rfl) ⟨Nat.le_of_ble_eq_true rfl, Nat.le_of_ble_eq_true rfl⟩ rfl dX1_lineText_22 (fun u9 H locs hw9 hP hD hS => ?_)
  refine W.widen (k := 11) (n := 2456) (Nat.le_refl _) (Nat.le_refl _) ?_
  obtain ⟨z2_4, e9⟩ : ∃ z, z = u9 := ⟨_, rfl⟩
  subst e9
  have hw22 : SBh z2_4 (lineX nr nc pL pB pp) := hw9
  have hP : va_P G.1 CL (VTW G vh ph th svh hs9 ah bh lh rh fa9 rf9 de9 ++ PW G ph pd nr nc pL pG pB pk pa pt pm ++ SBB G lh z2_4) _ := hP
  have hD : va_D A (VTW G vh ph th svh hs9 ah bh lh rh fa9 rf9 de9 ++ PW G ph pd nr nc pL pG pB pk pa pt pm ++ SBB G lh z2_4) := hD
  refine lv_aload_n hx hb dX1_lineText_25 rfl (lv_at hl 0 rfl) ?_
  refine va_get (D := G.1) (ci := 0) (v := .ref lh) (C := RX1) (T := TX1) (N := 11) hx hb hts in_X1 hown hK hP 0 rfl rfl 6 (by decide) (hts _ q434) (fun _ h9 => h9) rfl dX1_lineText_26 ?_
  refine callVi (As := []) (rest := []) (wc := (SBB G lh z2_4)) (wr := (VTW G vh ph th svh hs9 ah bh lh rh fa9 rf9 de9 ++ PW G ph pd nr nc pL pG pB pk pa pt pm)) ⟨hx, hb, hml, hown, hts⟩ (m_J3_length l G lh z2_4 (lineX nr nc pL pB pp) hw22) (cwV 0 hts (lw_V q992 q857 q2190 q94 q858) rfl rfl rfl (by decide +kernel) ⟨Nat.le_of_ble_eq_true rfl, Nat.le_of_ble_eq_true rfl⟩) hK hZ hA hP hD hS [7, 8] [0, 1, 2, 3, 4, 5, 6] rfl rfl (by decide) (by decide) (by decide) 0 9 rfl rfl rfl hl.1 (Nat.le_of_ble_eq_true rfl) ⟨Nat.le_of_ble_eq_true rfl, Nat.le_of_ble_eq_true rfl⟩ rfl dX1_lineText_29 (fun r9 u9 H locs hw9 hP hD hS => ?_)
  subst hw9
  have hP : va_P G.1 CL (VTW G vh ph th svh hs9 ah bh lh rh fa9 rf9 de9 ++ PW G ph pd nr nc pL pG pB pk pa pt pm ++ SBB G lh z2_4) _ := hP
  have hD : va_D A (VTW G vh ph th svh hs9 ah bh lh rh fa9 rf9 de9 ++ PW G ph pd nr nc pL pG pB pk pa pt pm ++ SBB G lh z2_4) := hD
  subst hQ
  refine vx_ret ?_
  exact ret_i hx hb hr hlk z2_4 ⟨(congrArg nI (by rw [cl_n (by omega)])), ⟨hw2, (by rw [cl_n (by omega)]; exact hw22)⟩⟩ hP hD hS rfl dX1_lineText_32
set_option maxHeartbeats 4000000 in
set_option maxRecDepth 100000 in
theorem m_X1_character (l : Launch) (G : GG) (vh : Nat) (ph : Nat) (th : Nat) (svh : Nat) (hs9 : Bool) (ah : Nat) (bh : Nat) (lh : Nat) (rh : Nat) (fa9 : Int32) (rf9 : Int32) (de9 : Int32) (lz : SBZ) (pa0 : Int32) (ls9 : List Nat) (hz : SBh lz ls9) (hst : l.stackTraces = false) : MX l G yX1_character cX1_character 2 (some .char) ⟨7, 1, 6, 101⟩ [.ref vh, .int pa0] (VTW G vh ph th svh hs9 ah bh lh rh fa9 rf9 de9 ++ SBB G lh lz) (Qi_ G (fun (r : Int32) (_ : Unit) => (r = nI (ls9.getD (cl_ pa0) 0)) ∧ (isIx pa0 ls9.length = true)) (fun (_ : Unit) => (VTW G vh ph th svh hs9 ah bh lh rh fa9 rf9 de9 ++ SBB G lh lz))) (XQ G (fun (_ : Unit) => RJ13) (fun (_ : Unit) => isIx pa0 ls9.length = false) (fun (q9 : Nat) (_ : Unit) => (VTW G vh ph th svh hs9 ah bh lh rh fa9 rf9 de9 ++ SBB G lh lz))) := by
  refine MX.of (by decide) (Nat.le_of_ble_eq_true rfl) ?_
  intro p e s m args below meth cd A C hini hA hK hZ hP hD hnt ls hl
  generalize hQ : vx_MQ below ((Qi_ G (fun (r : Int32) (_ : Unit) => (r = nI (ls9.getD (cl_ pa0) 0)) ∧ (isIx pa0 ls9.length = true)) (fun (_ : Unit) => (VTW G vh ph th svh hs9 ah bh lh rh fa9 rf9 de9 ++ SBB G lh lz))) A) ((XQ G (fun (_ : Unit) => RJ13) (fun (_ : Unit) => isIx pa0 ls9.length = false) (fun (q9 : Nat) (_ : Unit) => (VTW G vh ph th svh hs9 ah bh lh rh fa9 rf9 de9 ++ SBB G lh lz))) A) args s (⟨7, 1, 6, 101⟩ : Room).cells (⟨7, 1, 6, 101⟩ : Room).slots A = Q
  obtain ⟨hx, hb, hr, hts, hown, hlk, hml⟩ := C
  have hown : s.vm.findClass RX1 = some m.cls := hown
  have hS : va_S A s.heap s.heap [] := va_S.rf
  have hl : lv_has ls 2 [(0, .ref vh), (1, .int pa0)] := hl
  have hl6 := hz.len
  refine lv_iload_n hx hb dX1_character_0 rfl (lv_at hl 1 rfl) ?_
  refine lv_iconst (v := nI 0) hx hb dX1_character_1 (by decide) ?_
  refine lv_aload_n hx hb dX1_character_2 rfl (lv_at hl 0 rfl) ?_
  refine va_get (D := G.1) (ci := 0) (v := .ref lh) (C := RX1) (T := TX1) (N := 11) hx hb hts in_X1 hown hK hP 0 rfl rfl 6 (by decide) (hts _ q434) (fun _ h9 => h9) rfl dX1_character_3 ?_
  refine callVi (As := []) (rest := [.int (nI 0), .int pa0]) (wc := (SBB G lh lz)) (wr := (VTW G vh ph th svh hs9 ah bh lh rh fa9 rf9 de9)) ⟨hx, hb, hml, hown, hts⟩ (m_J3_length l G lh lz ls9 (by first | assumption | omega)) (cwV 0 hts (lw_V q992 q857 q2190 q94 q858) rfl rfl rfl (by decide +kernel) ⟨Nat.le_of_ble_eq_true rfl, Nat.le_of_ble_eq_true rfl⟩) hK hZ hA hP hD hS [1, 2] [0] rfl rfl (by decide) (by decide) (by decide) 0 9 rfl rfl rfl hl.1 (Nat.le_of_ble_eq_true rfl) ⟨Nat.le_of_ble_eq_true rfl, Nat.le_of_ble_eq_true rfl⟩ rfl dX1_character_6 (fun r9 u9 H locs hw9 hP hD hS => ?_)
  subst hw9
  have hP : va_P G.1 CL (VTW G vh ph th svh hs9 ah bh lh rh fa9 rf9 de9 ++ SBB G lh lz) _ := hP
  have hD : va_D A (VTW G vh ph th svh hs9 ah bh lh rh fa9 rf9 de9 ++ SBB G lh lz) := hD
  refine lv_iconst (v := nI 1) hx hb dX1_character_9 (by decide) ?_
  refine lv_isub hx hb dX1_character_10 ?_
  refine callSi (As := [.int pa0, .int (nI 0), .int ((nI ls9.length) - (nI 1))]) (rest := []) (wc := ([] : va_W)) (wr := (VTW G vh ph th svh hs9 ah bh lh rh fa9 rf9 de9 ++ SBB G lh lz)) ⟨hx, hb, hml, hown, hts⟩ (m_X1_in l G pa0 (nI 0) ((nI ls9.length) - (nI 1)) ) (va_cwS 3 hts (lw_S q1113 q1114 q88 q1115) rfl rfl rfl (by decide +kernel) ⟨Nat.le_of_ble_eq_true rfl, Nat.le_of_ble_eq_true rfl⟩) hK hZ hA hP hD hS [] [0, 1, 2] rfl rfl (by decide) (by decide) (by decide) rfl hl.1 (Nat.le_of_ble_eq_true rfl) ⟨Nat.le_of_ble_eq_true rfl, Nat.le_of_ble_eq_true rfl⟩ rfl dX1_character_11 (fun r9 u9 H locs hw9 hP hD hS => ?_)
  subst hw9
  have hP : va_P G.1 CL (VTW G vh ph th svh hs9 ah bh lh rh fa9 rf9 de9 ++ SBB G lh lz) _ := hP
  have hD : va_D A (VTW G vh ph th svh hs9 ah bh lh rh fa9 rf9 de9 ++ SBB G lh lz) := hD
  refine callXSv (As := [.int (bI (decide ((nI 0) ≤ pa0 ∧ pa0 ≤ ((nI ls9.length) - (nI 1)))))]) (rest := []) (wc := ([] : va_W)) (wr := (VTW G vh ph th svh hs9 ah bh lh rh fa9 rf9 de9 ++ SBB G lh lz)) ⟨hx, hb, hml, hown, hts⟩ (m_X1_checkIndex l G (decide ((nI 0) ≤ pa0 ∧ pa0 ≤ ((nI ls9.length) - (nI 1)))) (by first | assumption | omega)) (va_cwS 1 hts (lw_S q1189 q1190 q88 q1191) rfl rfl rfl (by decide +kernel) ⟨Nat.le_of_ble_eq_true rfl, Nat.le_of_ble_eq_true rfl⟩) hK hZ hA hP hD hS [] [0, 1, 2] rfl rfl (by decide) (by decide) (by decide) rfl hl.1 (Nat.le_of_ble_eq_true rfl) ⟨Nat.le_of_ble_eq_true rfl, Nat.le_of_ble_eq_true rfl⟩ rfl dX1_character_14 (fun ce9 q9 u9 H locs hw9 hP hD hS hce hcv hcl => ?_) (fun u9 H locs hw9 hP hD hS => ?_)
  · skip
    have hx14 : (decide ((nI 0) ≤ pa0 ∧ pa0 ≤ ((nI ls9.length) - (nI 1)))) = false := hw9
    have hP : va_P G.1 CL (VTW G vh ph th svh hs9 ah bh lh rh fa9 rf9 de9 ++ SBB G lh lz) _ := hP
    have hD : va_D A (VTW G vh ph th svh hs9 ah bh lh rh fa9 rf9 de9 ++ SBB G lh lz) := hD
    have hcl : s.vm.findClass RJ13 = some ce9.cls := hcl
    subst hQ
    refine vx_widen (k := 1) (n := 6) (Nat.le_of_ble_eq_true rfl) (Nat.le_of_ble_eq_true rfl) ?_
    exact out_x (by rw [hnt]; exact fun x9 hx9 => nomatch hx9) hlk () (by rw [← in_ix0 (by omega)]; exact hx14) hP hD hS hce hcv hcl (Nat.le_refl _) (Nat.le_refl _)
  refine W.widen (k := 1) (n := 6) (Nat.le_refl _) (Nat.le_refl _) ?_
  have hw14 : (decide ((nI 0) ≤ pa0 ∧ pa0 ≤ ((nI ls9.length) - (nI 1)))) = true := hw9
  have hP : va_P G.1 CL (VTW G vh ph th svh hs9 ah bh lh rh fa9 rf9 de9 ++ SBB G lh lz) _ := hP
  have hD : va_D A (VTW G vh ph th svh hs9 ah bh lh rh fa9 rf9 de9 ++ SBB G lh lz) := hD
  rw [in_ix0 (by omega)] at hw14
  obtain ⟨pp, pp1, rfl⟩ := isIx_t hw14 (by omega)
  refine lv_aload_n hx hb dX1_character_17 rfl (lv_at hl 0 rfl) ?_
  refine va_get (D := G.1) (ci := 0) (v := .ref lh) (C := RX1) (T := TX1) (N := 11) hx hb hts in_X1 hown hK hP 0 rfl rfl 6 (by decide) (hts _ q434) (fun _ h9 => h9) rfl dX1_character_18 ?_
  refine lv_iload_n hx hb dX1_character_21 rfl (lv_at hl 1 rfl) ?_
  refine callVi (As := [.int (nI pp)]) (rest := []) (wc := (SBB G lh lz)) (wr := (VTW G vh ph th svh hs9 ah bh lh rh fa9 rf9 de9)) ⟨hx, hb, hml, hown, hts⟩ (m_J3_charAt l G lh lz ls9 pp (by first | assumption | omega) (by first | assumption | omega)) (cwV 1 hts (lw_V q1515 q1516 q1517 q94 q1518) rfl rfl rfl (by decide +kernel) ⟨Nat.le_of_ble_eq_true rfl, Nat.le_of_ble_eq_true rfl⟩) hK hZ hA hP hD hS [1, 2] [0] rfl rfl (by decide) (by decide) (by decide) 0 9 rfl rfl rfl hl.1 (Nat.le_of_ble_eq_true rfl) ⟨Nat.le_of_ble_eq_true rfl, Nat.le_of_ble_eq_true rfl⟩ rfl dX1_character_22 (fun r9 u9 H locs hw9 hP hD hS => ?_)
  subst hw9
  have hP : va_P G.1 CL (VTW G vh ph th svh hs9 ah bh lh rh fa9 rf9 de9 ++ SBB G lh lz) _ := hP
  have hD : va_D A (VTW G vh ph th svh hs9 ah bh lh rh fa9 rf9 de9 ++ SBB G lh lz) := hD
  subst hQ
  refine vx_ret ?_
  exact ret_i hx hb hr hlk () ⟨(congrArg nI (by rw [cl_n (by omega)])), hw14⟩ hP hD hS (pk_charN (hz.2.2 _)).1 dX1_character_25
set_option maxHeartbeats 4000000 in
set_option maxRecDepth 100000 in
theorem m_X1_append (l : Launch) (G : GG) (vh : Nat) (ph : Nat) (th : Nat) (svh : Nat) (hs9 : Bool) (ah : Nat) (bh : Nat) (lh : Nat) (rh : Nat) (fa9 : Int32) (rf9 : Int32) (de9 : Int32) (bz : SBZ) (cv : Nat) (bs9 : List Nat) (hz : SBh bz bs9) (hcv : cv < 65536) (hst : l.stackTraces = false) : MX l G yX1_append cX1_append 2 (some .int) ⟨8, 3, 496, 179⟩ [.ref vh, .int (nI cv)] (VTW G vh ph th svh hs9 ah bh lh rh fa9 rf9 de9 ++ SBB G bh bz) (Qi_ G (fun (r : Int32) (u : (SBZ)) => (r = nI (bs9.length + 1)) ∧ (bs9.length < 60 ∧ SBh u (bs9 ++ [cv]))) (fun (u : (SBZ)) => (VTW G vh ph th svh hs9 ah bh lh rh fa9 rf9 de9 ++ SBB G bh u))) (XQ G (fun (_ : Unit) => RJ9) (fun (_ : Unit) => ¬ bs9.length < 60) (fun (q9 : Nat) (_ : Unit) => (VTW G vh ph th svh hs9 ah bh lh rh fa9 rf9 de9 ++ SBB G bh bz))) := by
  refine MX.of (by decide) (Nat.le_of_ble_eq_true rfl) ?_
  intro p e s m args below meth cd A C hini hA hK hZ hP hD hnt ls hl
  generalize hQ : vx_MQ below ((Qi_ G (fun (r : Int32) (u : (SBZ)) => (r = nI (bs9.length + 1)) ∧ (bs9.length < 60 ∧ SBh u (bs9 ++ [cv]))) (fun (u : (SBZ)) => (VTW G vh ph th svh hs9 ah bh lh rh fa9 rf9 de9 ++ SBB G bh u))) A) ((XQ G (fun (_ : Unit) => RJ9) (fun (_ : Unit) => ¬ bs9.length < 60) (fun (q9 : Nat) (_ : Unit) => (VTW G vh ph th svh hs9 ah bh lh rh fa9 rf9 de9 ++ SBB G bh bz))) A) args s (⟨8, 3, 496, 179⟩ : Room).cells (⟨8, 3, 496, 179⟩ : Room).slots A = Q
  obtain ⟨hx, hb, hr, hts, hown, hlk, hml⟩ := C
  have hown : s.vm.findClass RX1 = some m.cls := hown
  have hS : va_S A s.heap s.heap [] := va_S.rf
  have hl : lv_has ls 2 [(0, .ref vh), (1, .int (nI cv))] := hl
  have hl6 := hz.len
  refine lv_aload_n hx hb dX1_append_0 rfl (lv_at hl 0 rfl) ?_
  refine va_get (D := G.1) (ci := 0) (v := .ref bh) (C := RX1) (T := TX1) (N := 11) hx hb hts in_X1 hown hK hP 0 rfl rfl 5 (by decide) (hts _ q433) (fun _ h9 => h9) rfl dX1_append_1 ?_
  refine callVi (As := []) (rest := []) (wc := (SBB G bh bz)) (wr := (VTW G vh ph th svh hs9 ah bh lh rh fa9 rf9 de9)) ⟨hx, hb, hml, hown, hts⟩ (m_J3_length l G bh bz bs9 (by first | assumption | omega)) (cwV 0 hts (lw_V q992 q857 q2190 q94 q858) rfl rfl rfl (by decide +kernel) ⟨Nat.le_of_ble_eq_true rfl, Nat.le_of_ble_eq_true rfl⟩) hK hZ hA hP hD hS [1, 2] [0] rfl rfl (by decide) (by decide) (by decide) 0 9 rfl rfl rfl hl.1 (Nat.le_of_ble_eq_true rfl) ⟨Nat.le_of_ble_eq_true rfl, Nat.le_of_ble_eq_true rfl⟩ rfl dX1_append_4 (fun r9 u9 H locs hw9 hP hD hS => ?_)
  subst hw9
  have hP : va_P G.1 CL (VTW G vh ph th svh hs9 ah bh lh rh fa9 rf9 de9 ++ SBB G bh bz) _ := hP
  have hD : va_D A (VTW G vh ph th svh hs9 ah bh lh rh fa9 rf9 de9 ++ SBB G bh bz) := hD
  refine lv_bipush (v := nI 60) hx hb dX1_append_7 (by decide) ?_
  refine n_cmp_ge (tgt := 16) hx hb dX1_append_9 (by decide) (by omega) (by omega) (fun c9 => ?_) (fun c9 => ?_)
  · skip
    refine lv_iconst (v := nI 0) hx hb dX1_append_16 (by decide) ?_
    refine callXSv (As := [.int (nI 0)]) (rest := []) (wc := ([] : va_W)) (wr := (VTW G vh ph th svh hs9 ah bh lh rh fa9 rf9 de9 ++ SBB G bh bz)) ⟨hx, hb, hml, hown, hts⟩ (m_X1_checkState l G false (by first | assumption | omega)) (va_cwS 1 hts (lw_S q1533 q1534 q88 q1535) rfl rfl rfl (by decide +kernel) ⟨Nat.le_of_ble_eq_true rfl, Nat.le_of_ble_eq_true rfl⟩) hK hZ hA hP hD hS [] [0, 1, 2] rfl rfl (by decide) (by decide) (by decide) rfl hl.1 (Nat.le_of_ble_eq_true rfl) ⟨Nat.le_of_ble_eq_true rfl, Nat.le_of_ble_eq_true rfl⟩ rfl dX1_append_17 (fun ce9 q9 u9 H locs hw9 hP hD hS hce hcv hcl => ?_) (fun u9 H locs hw9 hP hD hS => ?_)
    · skip
      have hx17 : false = false := hw9
      have hP : va_P G.1 CL (VTW G vh ph th svh hs9 ah bh lh rh fa9 rf9 de9 ++ SBB G bh bz) _ := hP
      have hD : va_D A (VTW G vh ph th svh hs9 ah bh lh rh fa9 rf9 de9 ++ SBB G bh bz) := hD
      have hcl : s.vm.findClass RJ9 = some ce9.cls := hcl
      subst hQ
      refine vx_widen (k := 3) (n := 496) (Nat.le_of_ble_eq_true rfl) (Nat.le_of_ble_eq_true rfl) ?_
      exact out_x (by rw [hnt]; exact fun x9 hx9 => nomatch hx9) hlk () (by omega) hP hD hS hce hcv hcl (Nat.le_refl _) (Nat.le_refl _)
    refine W.widen (k := 1) (n := 6) (Nat.le_refl _) (Nat.le_refl _) ?_
    have hw17 : false = true := hw9
    have hP : va_P G.1 CL (VTW G vh ph th svh hs9 ah bh lh rh fa9 rf9 de9 ++ SBB G bh bz) _ := hP
    have hD : va_D A (VTW G vh ph th svh hs9 ah bh lh rh fa9 rf9 de9 ++ SBB G bh bz) := hD
    exact absurd hw17 (by decide)
  · skip
    refine lv_iconst (v := nI 1) hx hb dX1_append_12 (by decide) ?_
    refine lv_goto (tgt := 17) hx hb dX1_append_13 (by decide) ?_
    refine callXSv (As := [.int (nI 1)]) (rest := []) (wc := ([] : va_W)) (wr := (VTW G vh ph th svh hs9 ah bh lh rh fa9 rf9 de9 ++ SBB G bh bz)) ⟨hx, hb, hml, hown, hts⟩ (m_X1_checkState l G true (by first | assumption | omega)) (va_cwS 1 hts (lw_S q1533 q1534 q88 q1535) rfl rfl rfl (by decide +kernel) ⟨Nat.le_of_ble_eq_true rfl, Nat.le_of_ble_eq_true rfl⟩) hK hZ hA hP hD hS [] [0, 1, 2] rfl rfl (by decide) (by decide) (by decide) rfl hl.1 (Nat.le_of_ble_eq_true rfl) ⟨Nat.le_of_ble_eq_true rfl, Nat.le_of_ble_eq_true rfl⟩ rfl dX1_append_17 (fun ce9 q9 u9 H locs hw9 hP hD hS hce hcv hcl => ?_) (fun u9 H locs hw9 hP hD hS => ?_)
    · skip
      have hx17 : true = false := hw9
      have hP : va_P G.1 CL (VTW G vh ph th svh hs9 ah bh lh rh fa9 rf9 de9 ++ SBB G bh bz) _ := hP
      have hD : va_D A (VTW G vh ph th svh hs9 ah bh lh rh fa9 rf9 de9 ++ SBB G bh bz) := hD
      exact absurd hx17 (by decide)
    refine W.widen (k := 1) (n := 6) (Nat.le_refl _) (Nat.le_refl _) ?_
    have hw17 : true = true := hw9
    have hP : va_P G.1 CL (VTW G vh ph th svh hs9 ah bh lh rh fa9 rf9 de9 ++ SBB G bh bz) _ := hP
    have hD : va_D A (VTW G vh ph th svh hs9 ah bh lh rh fa9 rf9 de9 ++ SBB G bh bz) := hD
    refine lv_aload_n hx hb dX1_append_20 rfl (lv_at hl 0 rfl) ?_
    refine va_get (D := G.1) (ci := 0) (v := .ref bh) (C := RX1) (T := TX1) (N := 11) hx hb hts in_X1 hown hK hP 0 rfl rfl 5 (by decide) (hts _ q433) (fun _ h9 => h9) rfl dX1_append_21 ?_
    refine lv_iload_n hx hb dX1_append_24 rfl (lv_at hl 1 rfl) ?_
    refine callVr (As := [.int (nI cv)]) (rest := []) (wc := (SBB G bh bz)) (wr := (VTW G vh ph th svh hs9 ah bh lh rh fa9 rf9 de9)) ⟨hx, hb, hml, hown, hts⟩ (m_J3_append_3 l G bh bz bs9 cv (by first | assumption | omega) (by first | assumption | omega) (by first | assumption | omega)) (cwV 1 hts (lw_V q1541 q971 q972 q94 q973) rfl rfl rfl (by decide +kernel) ⟨Nat.le_of_ble_eq_true rfl, Nat.le_of_ble_eq_true rfl⟩) hK hZ hA hP hD hS [1, 2] [0] rfl rfl (by decide) (by decide) (by decide) 0 9 rfl rfl rfl hl.1 (Nat.le_of_ble_eq_true rfl) ⟨Nat.le_of_ble_eq_true rfl, Nat.le_of_ble_eq_true rfl⟩ rfl dX1_append_25 (fun r9 u9 H locs hw9 hP hD hS => ?_)
    refine W.widen (k := 3) (n := 496) (Nat.le_refl _) (Nat.le_refl _) ?_
    obtain ⟨z2_6, e9⟩ : ∃ z, z = u9 := ⟨_, rfl⟩
    subst e9
    obtain ⟨hr9, hw25⟩ := hw9
    subst r9
    have hw25 : SBh z2_6 (bs9 ++ [cv]) := hw25
    have hP : va_P G.1 CL (VTW G vh ph th svh hs9 ah bh lh rh fa9 rf9 de9 ++ SBB G bh z2_6) _ := hP
    have hD : va_D A (VTW G vh ph th svh hs9 ah bh lh rh fa9 rf9 de9 ++ SBB G bh z2_6) := hD
    refine lv_pop hx hb dX1_append_28 rfl ?_
    refine lv_aload_n hx hb dX1_append_29 rfl (lv_at hl 0 rfl) ?_
    refine va_get (D := G.1) (ci := 0) (v := .ref bh) (C := RX1) (T := TX1) (N := 11) hx hb hts in_X1 hown hK hP 0 rfl rfl 5 (by decide) (hts _ q433) (fun _ h9 => h9) rfl dX1_append_30 ?_
    refine callVi (As := []) (rest := []) (wc := (SBB G bh z2_6)) (wr := (VTW G vh ph th svh hs9 ah bh lh rh fa9 rf9 de9)) ⟨hx, hb, hml, hown, hts⟩ (m_J3_length l G bh z2_6 (bs9 ++ [cv]) hw25) (cwV 0 hts (lw_V q992 q857 q2190 q94 q858) rfl rfl rfl (by decide +kernel) ⟨Nat.le_of_ble_eq_true rfl, Nat.le_of_ble_eq_true rfl⟩) hK hZ hA hP hD hS [1, 2] [0] rfl rfl (by decide) (by decide) (by decide) 0 9 rfl rfl rfl hl.1 (Nat.le_of_ble_eq_true rfl) ⟨Nat.le_of_ble_eq_true rfl, Nat.le_of_ble_eq_true rfl⟩ rfl dX1_append_33 (fun r9 u9 H locs hw9 hP hD hS => ?_)
    subst hw9
    have hP : va_P G.1 CL (VTW G vh ph th svh hs9 ah bh lh rh fa9 rf9 de9 ++ SBB G bh z2_6) _ := hP
    have hD : va_D A (VTW G vh ph th svh hs9 ah bh lh rh fa9 rf9 de9 ++ SBB G bh z2_6) := hD
    subst hQ
    refine vx_ret ?_
    exact ret_i hx hb hr hlk z2_6 ⟨(by simp), ⟨(by omega), hw25⟩⟩ hP hD hS rfl dX1_append_36
set_option maxHeartbeats 4000000 in
set_option maxRecDepth 100000 in
theorem m_X1_refusal (l : Launch) (G : GG) (vh : Nat) (ph : Nat) (th : Nat) (svh : Nat) (hs9 : Bool) (ah : Nat) (bh : Nat) (lh : Nat) (rh : Nat) (fa9 : Int32) (de9 : Int32) (az : Bool) (rn : Nat) (hrn : rn < 100) (hst : l.stackTraces = false) : MX l G yX1_refusal cX1_refusal 2 (some .int) ⟨7, 1, 6, 101⟩ [.ref vh, .int (bI az)] (VTW G vh ph th svh hs9 ah bh lh rh fa9 (nI rn) de9) (Qi_ G (fun (r : Int32) (_ : Unit) => (r = (if az = true then de9 else nI rn)) ∧ (¬ rn = 0)) (fun (_ : Unit) => (VTW G vh ph th svh hs9 ah bh lh rh fa9 (nI rn) de9))) (XQ G (fun (_ : Unit) => RJ16) (fun (_ : Unit) => rn = 0) (fun (q9 : Nat) (_ : Unit) => (VTW G vh ph th svh hs9 ah bh lh rh fa9 (nI rn) de9))) := by
  refine MX.of (by decide) (Nat.le_of_ble_eq_true rfl) ?_
  intro p e s m args below meth cd A C hini hA hK hZ hP hD hnt ls hl
  generalize hQ : vx_MQ below ((Qi_ G (fun (r : Int32) (_ : Unit) => (r = (if az = true then de9 else nI rn)) ∧ (¬ rn = 0)) (fun (_ : Unit) => (VTW G vh ph th svh hs9 ah bh lh rh fa9 (nI rn) de9))) A) ((XQ G (fun (_ : Unit) => RJ16) (fun (_ : Unit) => rn = 0) (fun (q9 : Nat) (_ : Unit) => (VTW G vh ph th svh hs9 ah bh lh rh fa9 (nI rn) de9))) A) args s (⟨7, 1, 6, 101⟩ : Room).cells (⟨7, 1, 6, 101⟩ : Room).slots A = Q
  obtain ⟨hx, hb, hr, hts, hown, hlk, hml⟩ := C
  have hown : s.vm.findClass RX1 = some m.cls := hown
  have hS : va_S A s.heap s.heap [] := va_S.rf
  have hl : lv_has ls 2 [(0, .ref vh), (1, .int (bI az))] := hl
  refine lv_aload_n hx hb dX1_refusal_0 rfl (lv_at hl 0 rfl) ?_
  refine va_get (D := G.1) (ci := 0) (v := .int (nI rn)) (C := RX1) (T := TX1) (N := 11) hx hb hts in_X1 hown hK hP 0 rfl rfl 9 (by decide) (hts _ q437) (fun _ h9 => h9) rfl dX1_refusal_1 ?_
  refine eq_i (y := nI rn) rfl ?_
  refine n_if_le (tgt := 11) hx hb dX1_refusal_4 (by decide) (by omega) (fun c4 => ?_) (fun c4 => ?_)
  · skip
    refine lv_iconst (v := nI 0) hx hb dX1_refusal_11 (by decide) ?_
    refine callXSv (As := [.int (nI 0)]) (rest := []) (wc := ([] : va_W)) (wr := (VTW G vh ph th svh hs9 ah bh lh rh fa9 (nI rn) de9)) ⟨hx, hb, hml, hown, hts⟩ (m_X1_checkElement l G false (by first | assumption | omega)) (va_cwS 1 hts (lw_S q1348 q1349 q88 q1350) rfl rfl rfl (by decide +kernel) ⟨Nat.le_of_ble_eq_true rfl, Nat.le_of_ble_eq_true rfl⟩) hK hZ hA hP hD hS [] [0] rfl rfl (by decide) (by decide) (by decide) rfl hl.1 (Nat.le_of_ble_eq_true rfl) ⟨Nat.le_of_ble_eq_true rfl, Nat.le_of_ble_eq_true rfl⟩ rfl dX1_refusal_12 (fun ce9 q9 u9 H locs hw9 hP hD hS hce hcv hcl => ?_) (fun u9 H locs hw9 hP hD hS => ?_)
    · skip
      have hx12 : false = false := hw9
      have hP : va_P G.1 CL (VTW G vh ph th svh hs9 ah bh lh rh fa9 (nI rn) de9) _ := hP
      have hD : va_D A (VTW G vh ph th svh hs9 ah bh lh rh fa9 (nI rn) de9) := hD
      have hcl : s.vm.findClass RJ16 = some ce9.cls := hcl
      subst hQ
      refine vx_widen (k := 1) (n := 6) (Nat.le_of_ble_eq_true rfl) (Nat.le_of_ble_eq_true rfl) ?_
      exact out_x (by rw [hnt]; exact fun x9 hx9 => nomatch hx9) hlk () (by omega) hP hD hS hce hcv hcl (Nat.le_refl _) (Nat.le_refl _)
    refine W.widen (k := 1) (n := 6) (Nat.le_refl _) (Nat.le_refl _) ?_
    have hw12 : false = true := hw9
    have hP : va_P G.1 CL (VTW G vh ph th svh hs9 ah bh lh rh fa9 (nI rn) de9) _ := hP
    have hD : va_D A (VTW G vh ph th svh hs9 ah bh lh rh fa9 (nI rn) de9) := hD
    exact absurd hw12 (by decide)
  · skip
    refine lv_iconst (v := nI 1) hx hb dX1_refusal_7 (by decide) ?_
    refine lv_goto (tgt := 12) hx hb dX1_refusal_8 (by decide) ?_
    refine callXSv (As := [.int (nI 1)]) (rest := []) (wc := ([] : va_W)) (wr := (VTW G vh ph th svh hs9 ah bh lh rh fa9 (nI rn) de9)) ⟨hx, hb, hml, hown, hts⟩ (m_X1_checkElement l G true (by first | assumption | omega)) (va_cwS 1 hts (lw_S q1348 q1349 q88 q1350) rfl rfl rfl (by decide +kernel) ⟨Nat.le_of_ble_eq_true rfl, Nat.le_of_ble_eq_true rfl⟩) hK hZ hA hP hD hS [] [0] rfl rfl (by decide) (by decide) (by decide) rfl hl.1 (Nat.le_of_ble_eq_true rfl) ⟨Nat.le_of_ble_eq_true rfl, Nat.le_of_ble_eq_true rfl⟩ rfl dX1_refusal_12 (fun ce9 q9 u9 H locs hw9 hP hD hS hce hcv hcl => ?_) (fun u9 H locs hw9 hP hD hS => ?_)
    · skip
      have hx12 : true = false := hw9
      have hP : va_P G.1 CL (VTW G vh ph th svh hs9 ah bh lh rh fa9 (nI rn) de9) _ := hP
      have hD : va_D A (VTW G vh ph th svh hs9 ah bh lh rh fa9 (nI rn) de9) := hD
      exact absurd hx12 (by decide)
    refine W.widen (k := 1) (n := 6) (Nat.le_refl _) (Nat.le_refl _) ?_
    have hw12 : true = true := hw9
    have hP : va_P G.1 CL (VTW G vh ph th svh hs9 ah bh lh rh fa9 (nI rn) de9) _ := hP
    have hD : va_D A (VTW G vh ph th svh hs9 ah bh lh rh fa9 (nI rn) de9) := hD
    refine lv_iload_n hx hb dX1_refusal_15 rfl (lv_at hl 1 rfl) ?_
    refine b_if_eq (tgt := 26) hx hb dX1_refusal_16 (by decide) (fun c16 => ?_) (fun c16 => ?_)
    · skip
      refine lv_aload_n hx hb dX1_refusal_26 rfl (lv_at hl 0 rfl) ?_
      refine va_get (D := G.1) (ci := 0) (v := .int (nI rn)) (C := RX1) (T := TX1) (N := 11) hx hb hts in_X1 hown hK hP 0 rfl rfl 9 (by decide) (hts _ q437) (fun _ h9 => h9) rfl dX1_refusal_27 ?_
      subst hQ
      refine vx_ret ?_
      exact ret_i hx hb hr hlk () ⟨(if_neg (by rw [c16]; decide)).symm, (by omega)⟩ hP hD hS rfl dX1_refusal_30
    · skip
      refine lv_aload_n hx hb dX1_refusal_19 rfl (lv_at hl 0 rfl) ?_
      refine va_get (D := G.1) (ci := 0) (v := .int de9) (C := RX1) (T := TX1) (N := 11) hx hb hts in_X1 hown hK hP 0 rfl rfl 10 (by decide) (hts _ q438) (fun _ h9 => h9) rfl dX1_refusal_20 ?_
      refine lv_goto (tgt := 30) hx hb dX1_refusal_23 (by decide) ?_
      subst hQ
      refine vx_ret ?_
      exact ret_i hx hb hr hlk () ⟨(if_pos c16).symm, (by omega)⟩ hP hD hS rfl dX1_refusal_30
set_option maxHeartbeats 4000000 in
set_option maxRecDepth 100000 in
theorem m_X1_meanFar (l : Launch) (G : GG) (vh : Nat) (ph : Nat) (th : Nat) (svh : Nat) (hs9 : Bool) (ah : Nat) (bh : Nat) (lh : Nat) (rh : Nat) (fa9 : Int32) (rf9 : Int32) (de9 : Int32) (pd : Nat → Nat) (nr : Nat) (nc : Nat) (pL : Nat → Nat) (pG : Nat → Nat) (pB : Nat → Bool) (pk : Nat → Int32) (pa : Nat → Nat) (pt : Nat → Nat) (pm : Nat) (hd : 2 ≤ nr ∧ nr ≤ 3 ∧ 2 ≤ nc ∧ nc ≤ 3) (hL : ∀ i, pL i < 65536) (hG : ∀ i, pG i < 65536) (hst : l.stackTraces = false) : MX l G yX1_meanFar cX1_meanFar 2 (some .double) ⟨6, 1, 6, 81⟩ [.ref vh] (VTW G vh ph th svh hs9 ah bh lh rh fa9 rf9 de9 ++ PW G ph pd nr nc pL pG pB pk pa pt pm) (Qd_ G (fun (r : UInt64) (_ : Unit) => (r = (FP.ddiv (FP.i2d (nI (sm (faN nr nc pL pG) (nr * nc)))) (FP.i2d (nI (cn (fkN (nr * nc) pL pG) (nr * nc)))))) ∧ (¬ (cn (fkN (nr * nc) pL pG) (nr * nc)) = 0)) (fun (_ : Unit) => (VTW G vh ph th svh hs9 ah bh lh rh fa9 rf9 de9 ++ PW G ph pd nr nc pL pG pB pk pa pt pm))) (XQ G (fun (_ : Unit) => RJ24) (fun (_ : Unit) => (cn (fkN (nr * nc) pL pG) (nr * nc)) = 0) (fun (q9 : Nat) (_ : Unit) => (VTW G vh ph th svh hs9 ah bh lh rh fa9 rf9 de9 ++ PW G ph pd nr nc pL pG pB pk pa pt pm))) := by
  refine MX.of (by decide) (Nat.le_of_ble_eq_true rfl) ?_
  intro p e s m args below meth cd A C hini hA hK hZ hP hD hnt ls hl
  generalize hQ : vx_MQ below ((Qd_ G (fun (r : UInt64) (_ : Unit) => (r = (FP.ddiv (FP.i2d (nI (sm (faN nr nc pL pG) (nr * nc)))) (FP.i2d (nI (cn (fkN (nr * nc) pL pG) (nr * nc)))))) ∧ (¬ (cn (fkN (nr * nc) pL pG) (nr * nc)) = 0)) (fun (_ : Unit) => (VTW G vh ph th svh hs9 ah bh lh rh fa9 rf9 de9 ++ PW G ph pd nr nc pL pG pB pk pa pt pm))) A) ((XQ G (fun (_ : Unit) => RJ24) (fun (_ : Unit) => (cn (fkN (nr * nc) pL pG) (nr * nc)) = 0) (fun (q9 : Nat) (_ : Unit) => (VTW G vh ph th svh hs9 ah bh lh rh fa9 rf9 de9 ++ PW G ph pd nr nc pL pG pB pk pa pt pm))) A) args s (⟨6, 1, 6, 81⟩ : Room).cells (⟨6, 1, 6, 81⟩ : Room).slots A = Q
  obtain ⟨hx, hb, hr, hts, hown, hlk, hml⟩ := C
  have hown : s.vm.findClass RX1 = some m.cls := hown
  have hS : va_S A s.heap s.heap [] := va_S.rf
  have hl : lv_has ls 2 [(0, .ref vh)] := hl
  have hmu := dm_mul hd
  have hc9 := cn_le (fkN (nr * nc) pL pG) (nr * nc)
  refine lv_aload_n hx hb dX1_meanFar_0 rfl (lv_at hl 0 rfl) ?_
  refine va_get (D := G.1) (ci := 0) (v := .ref ph) (C := RX1) (T := TX1) (N := 11) hx hb hts in_X1 hown hK hP 0 rfl rfl 0 (by decide) (hts _ q428) (fun _ h9 => h9) rfl dX1_meanFar_1 ?_
  refine callVi (As := []) (rest := []) (wc := (PW G ph pd nr nc pL pG pB pk pa pt pm)) (wr := (VTW G vh ph th svh hs9 ah bh lh rh fa9 rf9 de9)) ⟨hx, hb, hml, hown, hts⟩ (m_X2_farKnown l G ph pd nr nc pL pG pB pk pa pt pm (by first | assumption | omega) (by first | assumption | omega) (by first | assumption | omega)) (cwV 0 hts (lw_V q1670 q1671 q1672 q89 q1673) rfl rfl rfl (by decide +kernel) ⟨Nat.le_of_ble_eq_true rfl, Nat.le_of_ble_eq_true rfl⟩) hK hZ hA hP hD hS [1, 2, 3, 4, 5, 6] [0] rfl rfl (by decide) (by decide) (by decide) 0 1 rfl rfl rfl hl.1 (Nat.le_of_ble_eq_true rfl) ⟨Nat.le_of_ble_eq_true rfl, Nat.le_of_ble_eq_true rfl⟩ rfl dX1_meanFar_4 (fun r9 u9 H locs hw9 hP hD hS => ?_)
  subst hw9
  have hP : va_P G.1 CL (VTW G vh ph th svh hs9 ah bh lh rh fa9 rf9 de9 ++ PW G ph pd nr nc pL pG pB pk pa pt pm) _ := hP
  have hD : va_D A (VTW G vh ph th svh hs9 ah bh lh rh fa9 rf9 de9 ++ PW G ph pd nr nc pL pG pB pk pa pt pm) := hD
  refine lv_istore_n (lv' := [(1, .int (nI (cn (fkN (nr * nc) pL pG) (nr * nc)))), (0, .ref vh)]) hx hb dX1_meanFar_7 rfl hl (by decide) rfl (fun ls hl => ?_)
  refine lv_iload_n hx hb dX1_meanFar_8 rfl (lv_at hl 0 rfl) ?_
  refine n_if_ne (tgt := 20) hx hb dX1_meanFar_9 (by decide) (by omega) (fun c9 => ?_) (fun c9 => ?_)
  · skip
    refine lv_aload_n hx hb dX1_meanFar_20 rfl (lv_at hl 1 rfl) ?_
    refine va_get (D := G.1) (ci := 0) (v := .ref ph) (C := RX1) (T := TX1) (N := 11) hx hb hts in_X1 hown hK hP 0 rfl rfl 0 (by decide) (hts _ q428) (fun _ h9 => h9) rfl dX1_meanFar_21 ?_
    refine callVi (As := []) (rest := []) (wc := (PW G ph pd nr nc pL pG pB pk pa pt pm)) (wr := (VTW G vh ph th svh hs9 ah bh lh rh fa9 rf9 de9)) ⟨hx, hb, hml, hown, hts⟩ (m_X2_farAll l G ph pd nr nc pL pG pB pk pa pt pm (by first | assumption | omega) (by first | assumption | omega) (by first | assumption | omega)) (cwV 0 hts (lw_V q1683 q1684 q1685 q89 q1686) rfl rfl rfl (by decide +kernel) ⟨Nat.le_of_ble_eq_true rfl, Nat.le_of_ble_eq_true rfl⟩) hK hZ hA hP hD hS [1, 2, 3, 4, 5, 6] [0] rfl rfl (by decide) (by decide) (by decide) 0 1 rfl rfl rfl hl.1 (Nat.le_of_ble_eq_true rfl) ⟨Nat.le_of_ble_eq_true rfl, Nat.le_of_ble_eq_true rfl⟩ rfl dX1_meanFar_24 (fun r9 u9 H locs hw9 hP hD hS => ?_)
    subst hw9
    have hP : va_P G.1 CL (VTW G vh ph th svh hs9 ah bh lh rh fa9 rf9 de9 ++ PW G ph pd nr nc pL pG pB pk pa pt pm) _ := hP
    have hD : va_D A (VTW G vh ph th svh hs9 ah bh lh rh fa9 rf9 de9 ++ PW G ph pd nr nc pL pG pB pk pa pt pm) := hD
    refine lv_i2d hx hb dX1_meanFar_27 ?_
    refine lv_iload_n hx hb dX1_meanFar_28 rfl (lv_at hl 0 rfl) ?_
    refine lv_i2d hx hb dX1_meanFar_29 ?_
    refine lv_ddiv hx hb dX1_meanFar_30 (fp_d (by have := sm_fa (L := pL) (K := pG) hd (nr * nc) (Nat.le_refl _); omega) (by omega) (by omega)) ?_
    subst hQ
    refine W.widen (k := 1) (n := 6) (Nat.le_of_ble_eq_true rfl) (Nat.le_of_ble_eq_true rfl) ?_
    refine vx_ret ?_
    exact ret_d hx hb hr hlk () ⟨rfl, (by omega)⟩ hP hD hS dX1_meanFar_31
  · skip
    subst hQ
    exact thr0 (own := RX1) (cls := "java/lang/ArithmeticException") (names := ["java/lang/RuntimeException", "java/lang/Exception"]) (ik := 362) (ic := 364) hx hb hst hown (by decide) (by decide) hts hZ q1678 q122 [98, 335, 344, 355, 358, 360, 336, 337, 129, 130, 338, 343, 356, 376, 325, 377, 327, 378, 329, 339, 341, 331, 1680, 1681, 1682, 661, 316, 661, 662, 663, 664, 318, 664, 665, 666, 336, 320, 1679, 1653, 1664, 1665, 348, 1659, 1660, 1662, 1658, 334, 333, 1657] (by decide +kernel) (by decide +kernel) (by decide +kernel) hP hD hS (by rw [hml]; exact hl.1) dX1_meanFar_12 dX1_meanFar_15 dX1_meanFar_16 dX1_meanFar_19 (by rw [hnt]; exact fun x9 hx9 => nomatch hx9) (Nat.le_of_ble_eq_true rfl) (Nat.le_of_ble_eq_true rfl) (Nat.le_of_ble_eq_true rfl) (Nat.le_of_ble_eq_true rfl) hlk () rfl (by omega) (fun _ => rfl) (Nat.le_of_ble_eq_true rfl) (Nat.le_of_ble_eq_true rfl)
