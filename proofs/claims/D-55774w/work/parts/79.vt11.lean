set_option maxHeartbeats 4000000 in
set_option maxRecDepth 100000 in
theorem m_X1_letter (l : Launch) (G : GG) (vh : Nat) (ph : Nat) (th : Nat) (svh : Nat) (hs9 : Bool) (ah : Nat) (bh : Nat) (lh : Nat) (rh : Nat) (fa9 : Int32) (rf9 : Int32) (de9 : Int32) (pd : Nat → Nat) (nr : Nat) (nc : Nat) (pL : Nat → Nat) (pG : Nat → Nat) (pB : Nat → Bool) (pk : Nat → Int32) (pa : Nat → Nat) (pt : Nat → Nat) (pm : Nat) (pa0 : Int32) (hd : 2 ≤ nr ∧ nr ≤ 3 ∧ 2 ≤ nc ∧ nc ≤ 3) (hL : ∀ i, pL i < 65536) (hst : l.stackTraces = false) : MX l G yX1_letter cX1_letter 2 (some .char) ⟨8, 1, 6, 122⟩ [.ref vh, .int pa0] (VTW G vh ph th svh hs9 ah bh lh rh fa9 rf9 de9 ++ PW G ph pd nr nc pL pG pB pk pa pt pm) (Qi_ G (fun (r : Int32) (_ : Unit) => (r = nI (pL (cl_ pa0))) ∧ (isIx pa0 (nr * nc) = true)) (fun (_ : Unit) => (VTW G vh ph th svh hs9 ah bh lh rh fa9 rf9 de9 ++ PW G ph pd nr nc pL pG pB pk pa pt pm))) (XQ G (fun (_ : Unit) => RJ13) (fun (_ : Unit) => isIx pa0 (nr * nc) = false) (fun (q9 : Nat) (_ : Unit) => (VTW G vh ph th svh hs9 ah bh lh rh fa9 rf9 de9 ++ PW G ph pd nr nc pL pG pB pk pa pt pm))) := by
  refine MX.of (by decide) (Nat.le_of_ble_eq_true rfl) ?_
  intro p e s m args below meth cd A C hini hA hK hZ hP hD hnt ls hl
  generalize hQ : vx_MQ below ((Qi_ G (fun (r : Int32) (_ : Unit) => (r = nI (pL (cl_ pa0))) ∧ (isIx pa0 (nr * nc) = true)) (fun (_ : Unit) => (VTW G vh ph th svh hs9 ah bh lh rh fa9 rf9 de9 ++ PW G ph pd nr nc pL pG pB pk pa pt pm))) A) ((XQ G (fun (_ : Unit) => RJ13) (fun (_ : Unit) => isIx pa0 (nr * nc) = false) (fun (q9 : Nat) (_ : Unit) => (VTW G vh ph th svh hs9 ah bh lh rh fa9 rf9 de9 ++ PW G ph pd nr nc pL pG pB pk pa pt pm))) A) args s (⟨8, 1, 6, 122⟩ : Room).cells (⟨8, 1, 6, 122⟩ : Room).slots A = Q
  obtain ⟨hx, hb, hr, hts, hown, hlk, hml⟩ := C
  have hown : s.vm.findClass RX1 = some m.cls := hown
  have hS : va_S A s.heap s.heap [] := va_S.rf
  have hl : lv_has ls 2 [(0, .ref vh), (1, .int pa0)] := hl
  have hmu := dm_mul hd
  refine lv_aload_n hx hb dX1_letter_0 rfl (lv_at hl 0 rfl) ?_
  refine lv_iload_n hx hb dX1_letter_1 rfl (lv_at hl 1 rfl) ?_
  refine callXVv (As := [.int pa0]) (rest := []) (wc := (VTW G vh ph th svh hs9 ah bh lh rh fa9 rf9 de9 ++ PW G ph pd nr nc pL pG pB pk pa pt pm)) (wr := ([] : va_W)) ⟨hx, hb, hml, hown, hts⟩ (m_X1_checkPlace l G vh ph th svh hs9 ah bh lh rh fa9 rf9 de9 pd nr nc pL pG pB pk pa pt pm pa0 (by first | assumption | omega) (by first | assumption | omega)) (cwV 1 hts (lw_V q1180 q1182 qs19 q88 q1183) rfl rfl rfl (by decide +kernel) ⟨Nat.le_of_ble_eq_true rfl, Nat.le_of_ble_eq_true rfl⟩) hK hZ hA hP hD hS [0, 1, 2, 3, 4, 5, 6] [] rfl rfl (by decide) (by decide) (by decide) 0 0 rfl rfl rfl hl.1 (Nat.le_of_ble_eq_true rfl) ⟨Nat.le_of_ble_eq_true rfl, Nat.le_of_ble_eq_true rfl⟩ rfl dX1_letter_2 (fun ce9 q9 u9 H locs hw9 hP hD hS hce hcv hcl => ?_) (fun u9 H locs hw9 hP hD hS => ?_)
  · skip
    have hx2 : isIx pa0 (nr * nc) = false := hw9
    have hP : va_P G.1 CL (VTW G vh ph th svh hs9 ah bh lh rh fa9 rf9 de9 ++ PW G ph pd nr nc pL pG pB pk pa pt pm) _ := hP
    have hD : va_D A (VTW G vh ph th svh hs9 ah bh lh rh fa9 rf9 de9 ++ PW G ph pd nr nc pL pG pB pk pa pt pm) := hD
    have hcl : s.vm.findClass RJ13 = some ce9.cls := hcl
    subst hQ
    refine vx_widen (k := 1) (n := 6) (Nat.le_of_ble_eq_true rfl) (Nat.le_of_ble_eq_true rfl) ?_
    exact out_x (by rw [hnt]; exact fun x9 hx9 => nomatch hx9) hlk () hx2 hP hD hS hce hcv hcl (Nat.le_refl _) (Nat.le_refl _)
  refine W.widen (k := 1) (n := 6) (Nat.le_refl _) (Nat.le_refl _) ?_
  have hw2 : isIx pa0 (nr * nc) = true := hw9
  have hP : va_P G.1 CL (VTW G vh ph th svh hs9 ah bh lh rh fa9 rf9 de9 ++ PW G ph pd nr nc pL pG pB pk pa pt pm) _ := hP
  have hD : va_D A (VTW G vh ph th svh hs9 ah bh lh rh fa9 rf9 de9 ++ PW G ph pd nr nc pL pG pB pk pa pt pm) := hD
  obtain ⟨pp, pp1, rfl⟩ := isIx_t hw2 (by omega)
  refine lv_aload_n hx hb dX1_letter_5 rfl (lv_at hl 0 rfl) ?_
  refine va_get (D := G.1) (ci := 0) (v := .ref ph) (C := RX1) (T := TX1) (N := 11) hx hb hts in_X1 hown hK hP 0 rfl rfl 0 (by decide) (hts _ q428) (fun _ h9 => h9) rfl dX1_letter_6 ?_
  refine va_getN (D := G.1) (ci := 1) (v := .ref (pd 0)) (C := RX2) (T := TX2) (N := 14) hx hb hts in_X2 hown hK hP 1 rfl rfl 2 (by decide) (va_Nw.use rfl (KS.nw hZ q146 rfl)) (fun _ h9 => h9) rfl dX1_letter_9 ?_
  refine lv_iload_n hx hb dX1_letter_12 rfl (lv_at hl 1 rfl) ?_
  refine n_cald hx hb hK hP 2 2 rfl rfl (by omega) (by decide) dX1_letter_13 ?_
  subst hQ
  refine vx_ret ?_
  exact ret_i hx hb hr hlk () ⟨(congrArg nI (by rw [cl_n (by omega)])), hw2⟩ hP hD hS (pk_charN (hL _)).1 dX1_letter_14
set_option maxHeartbeats 4000000 in
set_option maxRecDepth 100000 in
theorem m_X1_sign (l : Launch) (G : GG) (vh : Nat) (ph : Nat) (th : Nat) (svh : Nat) (hs9 : Bool) (ah : Nat) (bh : Nat) (lh : Nat) (rh : Nat) (fa9 : Int32) (rf9 : Int32) (de9 : Int32) (pd : Nat → Nat) (nr : Nat) (nc : Nat) (pL : Nat → Nat) (pG : Nat → Nat) (pB : Nat → Bool) (pk : Nat → Int32) (pa : Nat → Nat) (pt : Nat → Nat) (pm : Nat) (pa0 : Int32) (hd : 2 ≤ nr ∧ nr ≤ 3 ∧ 2 ≤ nc ∧ nc ≤ 3) (hG : ∀ i, pG i < 65536) (hst : l.stackTraces = false) : MX l G yX1_sign cX1_sign 2 (some .char) ⟨8, 1, 6, 122⟩ [.ref vh, .int pa0] (VTW G vh ph th svh hs9 ah bh lh rh fa9 rf9 de9 ++ PW G ph pd nr nc pL pG pB pk pa pt pm) (Qi_ G (fun (r : Int32) (_ : Unit) => (r = nI (pG (cl_ pa0))) ∧ (isIx pa0 (nr * nc) = true)) (fun (_ : Unit) => (VTW G vh ph th svh hs9 ah bh lh rh fa9 rf9 de9 ++ PW G ph pd nr nc pL pG pB pk pa pt pm))) (XQ G (fun (_ : Unit) => RJ13) (fun (_ : Unit) => isIx pa0 (nr * nc) = false) (fun (q9 : Nat) (_ : Unit) => (VTW G vh ph th svh hs9 ah bh lh rh fa9 rf9 de9 ++ PW G ph pd nr nc pL pG pB pk pa pt pm))) := by
  refine MX.of (by decide) (Nat.le_of_ble_eq_true rfl) ?_
  intro p e s m args below meth cd A C hini hA hK hZ hP hD hnt ls hl
  generalize hQ : vx_MQ below ((Qi_ G (fun (r : Int32) (_ : Unit) => (r = nI (pG (cl_ pa0))) ∧ (isIx pa0 (nr * nc) = true)) (fun (_ : Unit) => (VTW G vh ph th svh hs9 ah bh lh rh fa9 rf9 de9 ++ PW G ph pd nr nc pL pG pB pk pa pt pm))) A) ((XQ G (fun (_ : Unit) => RJ13) (fun (_ : Unit) => isIx pa0 (nr * nc) = false) (fun (q9 : Nat) (_ : Unit) => (VTW G vh ph th svh hs9 ah bh lh rh fa9 rf9 de9 ++ PW G ph pd nr nc pL pG pB pk pa pt pm))) A) args s (⟨8, 1, 6, 122⟩ : Room).cells (⟨8, 1, 6, 122⟩ : Room).slots A = Q
  obtain ⟨hx, hb, hr, hts, hown, hlk, hml⟩ := C
  have hown : s.vm.findClass RX1 = some m.cls := hown
  have hS : va_S A s.heap s.heap [] := va_S.rf
  have hl : lv_has ls 2 [(0, .ref vh), (1, .int pa0)] := hl
  have hmu := dm_mul hd
  refine lv_aload_n hx hb dX1_sign_0 rfl (lv_at hl 0 rfl) ?_
  refine lv_iload_n hx hb dX1_sign_1 rfl (lv_at hl 1 rfl) ?_
  refine callXVv (As := [.int pa0]) (rest := []) (wc := (VTW G vh ph th svh hs9 ah bh lh rh fa9 rf9 de9 ++ PW G ph pd nr nc pL pG pB pk pa pt pm)) (wr := ([] : va_W)) ⟨hx, hb, hml, hown, hts⟩ (m_X1_checkPlace l G vh ph th svh hs9 ah bh lh rh fa9 rf9 de9 pd nr nc pL pG pB pk pa pt pm pa0 (by first | assumption | omega) (by first | assumption | omega)) (cwV 1 hts (lw_V q1180 q1182 qs19 q88 q1183) rfl rfl rfl (by decide +kernel) ⟨Nat.le_of_ble_eq_true rfl, Nat.le_of_ble_eq_true rfl⟩) hK hZ hA hP hD hS [0, 1, 2, 3, 4, 5, 6] [] rfl rfl (by decide) (by decide) (by decide) 0 0 rfl rfl rfl hl.1 (Nat.le_of_ble_eq_true rfl) ⟨Nat.le_of_ble_eq_true rfl, Nat.le_of_ble_eq_true rfl⟩ rfl dX1_sign_2 (fun ce9 q9 u9 H locs hw9 hP hD hS hce hcv hcl => ?_) (fun u9 H locs hw9 hP hD hS => ?_)
  · skip
    have hx2 : isIx pa0 (nr * nc) = false := hw9
    have hP : va_P G.1 CL (VTW G vh ph th svh hs9 ah bh lh rh fa9 rf9 de9 ++ PW G ph pd nr nc pL pG pB pk pa pt pm) _ := hP
    have hD : va_D A (VTW G vh ph th svh hs9 ah bh lh rh fa9 rf9 de9 ++ PW G ph pd nr nc pL pG pB pk pa pt pm) := hD
    have hcl : s.vm.findClass RJ13 = some ce9.cls := hcl
    subst hQ
    refine vx_widen (k := 1) (n := 6) (Nat.le_of_ble_eq_true rfl) (Nat.le_of_ble_eq_true rfl) ?_
    exact out_x (by rw [hnt]; exact fun x9 hx9 => nomatch hx9) hlk () hx2 hP hD hS hce hcv hcl (Nat.le_refl _) (Nat.le_refl _)
  refine W.widen (k := 1) (n := 6) (Nat.le_refl _) (Nat.le_refl _) ?_
  have hw2 : isIx pa0 (nr * nc) = true := hw9
  have hP : va_P G.1 CL (VTW G vh ph th svh hs9 ah bh lh rh fa9 rf9 de9 ++ PW G ph pd nr nc pL pG pB pk pa pt pm) _ := hP
  have hD : va_D A (VTW G vh ph th svh hs9 ah bh lh rh fa9 rf9 de9 ++ PW G ph pd nr nc pL pG pB pk pa pt pm) := hD
  obtain ⟨pp, pp1, rfl⟩ := isIx_t hw2 (by omega)
  refine lv_aload_n hx hb dX1_sign_5 rfl (lv_at hl 0 rfl) ?_
  refine va_get (D := G.1) (ci := 0) (v := .ref ph) (C := RX1) (T := TX1) (N := 11) hx hb hts in_X1 hown hK hP 0 rfl rfl 0 (by decide) (hts _ q428) (fun _ h9 => h9) rfl dX1_sign_6 ?_
  refine va_getN (D := G.1) (ci := 1) (v := .ref (pd 1)) (C := RX2) (T := TX2) (N := 14) hx hb hts in_X2 hown hK hP 1 rfl rfl 3 (by decide) (va_Nw.use rfl (KS.nw hZ q148 rfl)) (fun _ h9 => h9) rfl dX1_sign_9 ?_
  refine lv_iload_n hx hb dX1_sign_12 rfl (lv_at hl 1 rfl) ?_
  refine n_cald hx hb hK hP 3 2 rfl rfl (by omega) (by decide) dX1_sign_13 ?_
  subst hQ
  refine vx_ret ?_
  exact ret_i hx hb hr hlk () ⟨(congrArg nI (by rw [cl_n (by omega)])), hw2⟩ hP hD hS (pk_charN (hG _)).1 dX1_sign_14
set_option maxHeartbeats 4000000 in
set_option maxRecDepth 100000 in
theorem m_X1_isBarred (l : Launch) (G : GG) (vh : Nat) (ph : Nat) (th : Nat) (svh : Nat) (hs9 : Bool) (ah : Nat) (bh : Nat) (lh : Nat) (rh : Nat) (fa9 : Int32) (rf9 : Int32) (de9 : Int32) (pd : Nat → Nat) (nr : Nat) (nc : Nat) (pL : Nat → Nat) (pG : Nat → Nat) (pB : Nat → Bool) (pk : Nat → Int32) (pa : Nat → Nat) (pt : Nat → Nat) (pm : Nat) (pa0 : Int32) (hd : 2 ≤ nr ∧ nr ≤ 3 ∧ 2 ≤ nc ∧ nc ≤ 3) (hst : l.stackTraces = false) : MX l G yX1_isBarred cX1_isBarred 2 (some .boolean) ⟨8, 1, 6, 122⟩ [.ref vh, .int pa0] (VTW G vh ph th svh hs9 ah bh lh rh fa9 rf9 de9 ++ PW G ph pd nr nc pL pG pB pk pa pt pm) (Qi_ G (fun (r : Int32) (_ : Unit) => (r = bI (pB (cl_ pa0))) ∧ (isIx pa0 (nr + nc) = true)) (fun (_ : Unit) => (VTW G vh ph th svh hs9 ah bh lh rh fa9 rf9 de9 ++ PW G ph pd nr nc pL pG pB pk pa pt pm))) (XQ G (fun (_ : Unit) => RJ13) (fun (_ : Unit) => isIx pa0 (nr + nc) = false) (fun (q9 : Nat) (_ : Unit) => (VTW G vh ph th svh hs9 ah bh lh rh fa9 rf9 de9 ++ PW G ph pd nr nc pL pG pB pk pa pt pm))) := by
  refine MX.of (by decide) (Nat.le_of_ble_eq_true rfl) ?_
  intro p e s m args below meth cd A C hini hA hK hZ hP hD hnt ls hl
  generalize hQ : vx_MQ below ((Qi_ G (fun (r : Int32) (_ : Unit) => (r = bI (pB (cl_ pa0))) ∧ (isIx pa0 (nr + nc) = true)) (fun (_ : Unit) => (VTW G vh ph th svh hs9 ah bh lh rh fa9 rf9 de9 ++ PW G ph pd nr nc pL pG pB pk pa pt pm))) A) ((XQ G (fun (_ : Unit) => RJ13) (fun (_ : Unit) => isIx pa0 (nr + nc) = false) (fun (q9 : Nat) (_ : Unit) => (VTW G vh ph th svh hs9 ah bh lh rh fa9 rf9 de9 ++ PW G ph pd nr nc pL pG pB pk pa pt pm))) A) args s (⟨8, 1, 6, 122⟩ : Room).cells (⟨8, 1, 6, 122⟩ : Room).slots A = Q
  obtain ⟨hx, hb, hr, hts, hown, hlk, hml⟩ := C
  have hown : s.vm.findClass RX1 = some m.cls := hown
  have hS : va_S A s.heap s.heap [] := va_S.rf
  have hl : lv_has ls 2 [(0, .ref vh), (1, .int pa0)] := hl
  have hmu := dm_mul hd
  refine lv_aload_n hx hb dX1_isBarred_0 rfl (lv_at hl 0 rfl) ?_
  refine lv_iload_n hx hb dX1_isBarred_1 rfl (lv_at hl 1 rfl) ?_
  refine callXVv (As := [.int pa0]) (rest := []) (wc := (VTW G vh ph th svh hs9 ah bh lh rh fa9 rf9 de9 ++ PW G ph pd nr nc pL pG pB pk pa pt pm)) (wr := ([] : va_W)) ⟨hx, hb, hml, hown, hts⟩ (m_X1_checkLine l G vh ph th svh hs9 ah bh lh rh fa9 rf9 de9 pd nr nc pL pG pB pk pa pt pm pa0 (by first | assumption | omega) (by first | assumption | omega)) (cwV 1 hts (lw_V q1306 q1308 qs22 q88 q1309) rfl rfl rfl (by decide +kernel) ⟨Nat.le_of_ble_eq_true rfl, Nat.le_of_ble_eq_true rfl⟩) hK hZ hA hP hD hS [0, 1, 2, 3, 4, 5, 6] [] rfl rfl (by decide) (by decide) (by decide) 0 0 rfl rfl rfl hl.1 (Nat.le_of_ble_eq_true rfl) ⟨Nat.le_of_ble_eq_true rfl, Nat.le_of_ble_eq_true rfl⟩ rfl dX1_isBarred_2 (fun ce9 q9 u9 H locs hw9 hP hD hS hce hcv hcl => ?_) (fun u9 H locs hw9 hP hD hS => ?_)
  · skip
    have hx2 : isIx pa0 (nr + nc) = false := hw9
    have hP : va_P G.1 CL (VTW G vh ph th svh hs9 ah bh lh rh fa9 rf9 de9 ++ PW G ph pd nr nc pL pG pB pk pa pt pm) _ := hP
    have hD : va_D A (VTW G vh ph th svh hs9 ah bh lh rh fa9 rf9 de9 ++ PW G ph pd nr nc pL pG pB pk pa pt pm) := hD
    have hcl : s.vm.findClass RJ13 = some ce9.cls := hcl
    subst hQ
    refine vx_widen (k := 1) (n := 6) (Nat.le_of_ble_eq_true rfl) (Nat.le_of_ble_eq_true rfl) ?_
    exact out_x (by rw [hnt]; exact fun x9 hx9 => nomatch hx9) hlk () hx2 hP hD hS hce hcv hcl (Nat.le_refl _) (Nat.le_refl _)
  refine W.widen (k := 1) (n := 6) (Nat.le_refl _) (Nat.le_refl _) ?_
  have hw2 : isIx pa0 (nr + nc) = true := hw9
  have hP : va_P G.1 CL (VTW G vh ph th svh hs9 ah bh lh rh fa9 rf9 de9 ++ PW G ph pd nr nc pL pG pB pk pa pt pm) _ := hP
  have hD : va_D A (VTW G vh ph th svh hs9 ah bh lh rh fa9 rf9 de9 ++ PW G ph pd nr nc pL pG pB pk pa pt pm) := hD
  obtain ⟨pp, pp1, rfl⟩ := isIx_t hw2 (by omega)
  refine lv_aload_n hx hb dX1_isBarred_5 rfl (lv_at hl 0 rfl) ?_
  refine va_get (D := G.1) (ci := 0) (v := .ref ph) (C := RX1) (T := TX1) (N := 11) hx hb hts in_X1 hown hK hP 0 rfl rfl 0 (by decide) (hts _ q428) (fun _ h9 => h9) rfl dX1_isBarred_6 ?_
  refine va_getN (D := G.1) (ci := 1) (v := .ref (pd 2)) (C := RX2) (T := TX2) (N := 14) hx hb hts in_X2 hown hK hP 1 rfl rfl 4 (by decide) (va_Nw.use rfl (KS.nw hZ q150 rfl)) (fun _ h9 => h9) rfl dX1_isBarred_9 ?_
  refine lv_iload_n hx hb dX1_isBarred_12 rfl (lv_at hl 1 rfl) ?_
  refine b_zald hx hb hK hP 4 0 rfl rfl (by omega) (by decide) dX1_isBarred_13 ?_
  subst hQ
  refine vx_ret ?_
  exact ret_i hx hb hr hlk () ⟨(congrArg bI (by rw [cl_n (by omega)])), hw2⟩ hP hD hS (bI_nar _) dX1_isBarred_14
set_option maxHeartbeats 4000000 in
set_option maxRecDepth 100000 in
theorem m_X1_would (l : Launch) (G : GG) (vh : Nat) (ph : Nat) (th : Nat) (svh : Nat) (hs9 : Bool) (ah : Nat) (bh : Nat) (lh : Nat) (rh : Nat) (fa9 : Int32) (rf9 : Int32) (de9 : Int32) (pd : Nat → Nat) (nr : Nat) (nc : Nat) (pL : Nat → Nat) (pG : Nat → Nat) (pB : Nat → Bool) (pk : Nat → Int32) (pa : Nat → Nat) (pt : Nat → Nat) (pm : Nat) (pa0 : Int32) (hd : 2 ≤ nr ∧ nr ≤ 3 ∧ 2 ≤ nc ∧ nc ≤ 3) (hL : ∀ i, pL i < 65536) (hG : ∀ i, pG i < 65536) (hst : l.stackTraces = false) : MX l G yX1_would cX1_would 2 (some .int) ⟨7, 1, 6, 101⟩ [.ref vh, .int pa0] (VTW G vh ph th svh hs9 ah bh lh rh fa9 rf9 de9 ++ PW G ph pd nr nc pL pG pB pk pa pt pm) (Qi_ G (fun (r : Int32) (_ : Unit) => (r = nI (hm nr nc (tn nr nc (cl_ pa0) pL) pG)) ∧ (isIx pa0 (2 * (nr + nc)) = true)) (fun (_ : Unit) => (VTW G vh ph th svh hs9 ah bh lh rh fa9 rf9 de9 ++ PW G ph pd nr nc pL pG pB pk pa pt pm))) (XQ G (fun (_ : Unit) => RJ13) (fun (_ : Unit) => isIx pa0 (2 * (nr + nc)) = false) (fun (q9 : Nat) (_ : Unit) => (VTW G vh ph th svh hs9 ah bh lh rh fa9 rf9 de9 ++ PW G ph pd nr nc pL pG pB pk pa pt pm))) := by
  refine MX.of (by decide) (Nat.le_of_ble_eq_true rfl) ?_
  intro p e s m args below meth cd A C hini hA hK hZ hP hD hnt ls hl
  generalize hQ : vx_MQ below ((Qi_ G (fun (r : Int32) (_ : Unit) => (r = nI (hm nr nc (tn nr nc (cl_ pa0) pL) pG)) ∧ (isIx pa0 (2 * (nr + nc)) = true)) (fun (_ : Unit) => (VTW G vh ph th svh hs9 ah bh lh rh fa9 rf9 de9 ++ PW G ph pd nr nc pL pG pB pk pa pt pm))) A) ((XQ G (fun (_ : Unit) => RJ13) (fun (_ : Unit) => isIx pa0 (2 * (nr + nc)) = false) (fun (q9 : Nat) (_ : Unit) => (VTW G vh ph th svh hs9 ah bh lh rh fa9 rf9 de9 ++ PW G ph pd nr nc pL pG pB pk pa pt pm))) A) args s (⟨7, 1, 6, 101⟩ : Room).cells (⟨7, 1, 6, 101⟩ : Room).slots A = Q
  obtain ⟨hx, hb, hr, hts, hown, hlk, hml⟩ := C
  have hown : s.vm.findClass RX1 = some m.cls := hown
  have hS : va_S A s.heap s.heap [] := va_S.rf
  have hl : lv_has ls 2 [(0, .ref vh), (1, .int pa0)] := hl
  have hmu := dm_mul hd
  refine lv_aload_n hx hb dX1_would_0 rfl (lv_at hl 0 rfl) ?_
  refine va_get (D := G.1) (ci := 0) (v := .ref ph) (C := RX1) (T := TX1) (N := 11) hx hb hts in_X1 hown hK hP 0 rfl rfl 0 (by decide) (hts _ q428) (fun _ h9 => h9) rfl dX1_would_1 ?_
  refine lv_iload_n hx hb dX1_would_4 rfl (lv_at hl 1 rfl) ?_
  refine callVi (As := [.int pa0]) (rest := []) (wc := (PW G ph pd nr nc pL pG pB pk pa pt pm)) (wr := (VTW G vh ph th svh hs9 ah bh lh rh fa9 rf9 de9)) ⟨hx, hb, hml, hown, hts⟩ (m_X2_isTurn l G ph pd nr nc pL pG pB pk pa pt pm pa0 (by first | assumption | omega)) (cwV 1 hts (lw_V q1276 q1277 q1278 q89 q1279) rfl rfl rfl (by decide +kernel) ⟨Nat.le_of_ble_eq_true rfl, Nat.le_of_ble_eq_true rfl⟩) hK hZ hA hP hD hS [1, 2, 3, 4, 5, 6] [0] rfl rfl (by decide) (by decide) (by decide) 0 1 rfl rfl rfl hl.1 (Nat.le_of_ble_eq_true rfl) ⟨Nat.le_of_ble_eq_true rfl, Nat.le_of_ble_eq_true rfl⟩ rfl dX1_would_5 (fun r9 u9 H locs hw9 hP hD hS => ?_)
  subst hw9
  have hP : va_P G.1 CL (VTW G vh ph th svh hs9 ah bh lh rh fa9 rf9 de9 ++ PW G ph pd nr nc pL pG pB pk pa pt pm) _ := hP
  have hD : va_D A (VTW G vh ph th svh hs9 ah bh lh rh fa9 rf9 de9 ++ PW G ph pd nr nc pL pG pB pk pa pt pm) := hD
  refine callXSv (As := [.int (bI (isIx pa0 (2 * (nr + nc))))]) (rest := []) (wc := ([] : va_W)) (wr := (VTW G vh ph th svh hs9 ah bh lh rh fa9 rf9 de9 ++ PW G ph pd nr nc pL pG pB pk pa pt pm)) ⟨hx, hb, hml, hown, hts⟩ (m_X1_checkIndex l G (isIx pa0 (2 * (nr + nc))) (by first | assumption | omega)) (va_cwS 1 hts (lw_S q1189 q1190 q88 q1191) rfl rfl rfl (by decide +kernel) ⟨Nat.le_of_ble_eq_true rfl, Nat.le_of_ble_eq_true rfl⟩) hK hZ hA hP hD hS [] [0, 1, 2, 3, 4, 5, 6] rfl rfl (by decide) (by decide) (by decide) rfl hl.1 (Nat.le_of_ble_eq_true rfl) ⟨Nat.le_of_ble_eq_true rfl, Nat.le_of_ble_eq_true rfl⟩ rfl dX1_would_8 (fun ce9 q9 u9 H locs hw9 hP hD hS hce hcv hcl => ?_) (fun u9 H locs hw9 hP hD hS => ?_)
  · skip
    have hx8 : (isIx pa0 (2 * (nr + nc))) = false := hw9
    have hP : va_P G.1 CL (VTW G vh ph th svh hs9 ah bh lh rh fa9 rf9 de9 ++ PW G ph pd nr nc pL pG pB pk pa pt pm) _ := hP
    have hD : va_D A (VTW G vh ph th svh hs9 ah bh lh rh fa9 rf9 de9 ++ PW G ph pd nr nc pL pG pB pk pa pt pm) := hD
    have hcl : s.vm.findClass RJ13 = some ce9.cls := hcl
    subst hQ
    refine vx_widen (k := 1) (n := 6) (Nat.le_of_ble_eq_true rfl) (Nat.le_of_ble_eq_true rfl) ?_
    exact out_x (by rw [hnt]; exact fun x9 hx9 => nomatch hx9) hlk () hx8 hP hD hS hce hcv hcl (Nat.le_refl _) (Nat.le_refl _)
  refine W.widen (k := 1) (n := 6) (Nat.le_refl _) (Nat.le_refl _) ?_
  have hw8 : (isIx pa0 (2 * (nr + nc))) = true := hw9
  have hP : va_P G.1 CL (VTW G vh ph th svh hs9 ah bh lh rh fa9 rf9 de9 ++ PW G ph pd nr nc pL pG pB pk pa pt pm) _ := hP
  have hD : va_D A (VTW G vh ph th svh hs9 ah bh lh rh fa9 rf9 de9 ++ PW G ph pd nr nc pL pG pB pk pa pt pm) := hD
  obtain ⟨pp, pp1, rfl⟩ := isIx_t hw8 (by omega)
  refine lv_aload_n hx hb dX1_would_11 rfl (lv_at hl 0 rfl) ?_
  refine va_get (D := G.1) (ci := 0) (v := .ref ph) (C := RX1) (T := TX1) (N := 11) hx hb hts in_X1 hown hK hP 0 rfl rfl 0 (by decide) (hts _ q428) (fun _ h9 => h9) rfl dX1_would_12 ?_
  refine lv_iload_n hx hb dX1_would_15 rfl (lv_at hl 1 rfl) ?_
  refine callVi (As := [.int (nI pp)]) (rest := []) (wc := (PW G ph pd nr nc pL pG pB pk pa pt pm)) (wr := (VTW G vh ph th svh hs9 ah bh lh rh fa9 rf9 de9)) ⟨hx, hb, hml, hown, hts⟩ (m_X2_would l G ph pd nr nc pL pG pB pk pa pt pm pp (by first | assumption | omega) (by first | assumption | omega) (by first | assumption | omega) (by first | assumption | omega)) (cwV 1 hts (lw_V q1424 q1425 q1426 q89 q1427) rfl rfl rfl (by decide +kernel) ⟨Nat.le_of_ble_eq_true rfl, Nat.le_of_ble_eq_true rfl⟩) hK hZ hA hP hD hS [1, 2, 3, 4, 5, 6] [0] rfl rfl (by decide) (by decide) (by decide) 0 1 rfl rfl rfl hl.1 (Nat.le_of_ble_eq_true rfl) ⟨Nat.le_of_ble_eq_true rfl, Nat.le_of_ble_eq_true rfl⟩ rfl dX1_would_16 (fun r9 u9 H locs hw9 hP hD hS => ?_)
  subst hw9
  have hP : va_P G.1 CL (VTW G vh ph th svh hs9 ah bh lh rh fa9 rf9 de9 ++ PW G ph pd nr nc pL pG pB pk pa pt pm) _ := hP
  have hD : va_D A (VTW G vh ph th svh hs9 ah bh lh rh fa9 rf9 de9 ++ PW G ph pd nr nc pL pG pB pk pa pt pm) := hD
  subst hQ
  refine vx_ret ?_
  exact ret_i hx hb hr hlk () ⟨(congrArg nI (by rw [cl_n (by omega)])), hw8⟩ hP hD hS rfl dX1_would_19
set_option maxHeartbeats 4000000 in
set_option maxRecDepth 100000 in
theorem m_X1_sings (l : Launch) (G : GG) (vh : Nat) (ph : Nat) (th : Nat) (svh : Nat) (hs9 : Bool) (ah : Nat) (bh : Nat) (lh : Nat) (rh : Nat) (fa9 : Int32) (rf9 : Int32) (de9 : Int32) (pd : Nat → Nat) (nr : Nat) (nc : Nat) (pL : Nat → Nat) (pG : Nat → Nat) (pB : Nat → Bool) (pk : Nat → Int32) (pa : Nat → Nat) (pt : Nat → Nat) (pm : Nat) (pa0 : Int32) (hd : 2 ≤ nr ∧ nr ≤ 3 ∧ 2 ≤ nc ∧ nc ≤ 3) (hL : ∀ i, pL i < 65536) (hst : l.stackTraces = false) : MX l G yX1_sings cX1_sings 2 (some .boolean) ⟨8, 1, 6, 122⟩ [.ref vh, .int pa0] (VTW G vh ph th svh hs9 ah bh lh rh fa9 rf9 de9 ++ PW G ph pd nr nc pL pG pB pk pa pt pm) (Qi_ G (fun (r : Int32) (_ : Unit) => (r = bI (snN nr nc pL (cl_ pa0))) ∧ (isIx pa0 (nr + nc) = true)) (fun (_ : Unit) => (VTW G vh ph th svh hs9 ah bh lh rh fa9 rf9 de9 ++ PW G ph pd nr nc pL pG pB pk pa pt pm))) (XQ G (fun (_ : Unit) => RJ13) (fun (_ : Unit) => isIx pa0 (nr + nc) = false) (fun (q9 : Nat) (_ : Unit) => (VTW G vh ph th svh hs9 ah bh lh rh fa9 rf9 de9 ++ PW G ph pd nr nc pL pG pB pk pa pt pm))) := by
  refine MX.of (by decide) (Nat.le_of_ble_eq_true rfl) ?_
  intro p e s m args below meth cd A C hini hA hK hZ hP hD hnt ls hl
  generalize hQ : vx_MQ below ((Qi_ G (fun (r : Int32) (_ : Unit) => (r = bI (snN nr nc pL (cl_ pa0))) ∧ (isIx pa0 (nr + nc) = true)) (fun (_ : Unit) => (VTW G vh ph th svh hs9 ah bh lh rh fa9 rf9 de9 ++ PW G ph pd nr nc pL pG pB pk pa pt pm))) A) ((XQ G (fun (_ : Unit) => RJ13) (fun (_ : Unit) => isIx pa0 (nr + nc) = false) (fun (q9 : Nat) (_ : Unit) => (VTW G vh ph th svh hs9 ah bh lh rh fa9 rf9 de9 ++ PW G ph pd nr nc pL pG pB pk pa pt pm))) A) args s (⟨8, 1, 6, 122⟩ : Room).cells (⟨8, 1, 6, 122⟩ : Room).slots A = Q
  obtain ⟨hx, hb, hr, hts, hown, hlk, hml⟩ := C
  have hown : s.vm.findClass RX1 = some m.cls := hown
  have hS : va_S A s.heap s.heap [] := va_S.rf
  have hl : lv_has ls 2 [(0, .ref vh), (1, .int pa0)] := hl
  have hmu := dm_mul hd
  refine lv_aload_n hx hb dX1_sings_0 rfl (lv_at hl 0 rfl) ?_
  refine lv_iload_n hx hb dX1_sings_1 rfl (lv_at hl 1 rfl) ?_
  refine callXVv (As := [.int pa0]) (rest := []) (wc := (VTW G vh ph th svh hs9 ah bh lh rh fa9 rf9 de9 ++ PW G ph pd nr nc pL pG pB pk pa pt pm)) (wr := ([] : va_W)) ⟨hx, hb, hml, hown, hts⟩ (m_X1_checkLine l G vh ph th svh hs9 ah bh lh rh fa9 rf9 de9 pd nr nc pL pG pB pk pa pt pm pa0 (by first | assumption | omega) (by first | assumption | omega)) (cwV 1 hts (lw_V q1306 q1308 qs22 q88 q1309) rfl rfl rfl (by decide +kernel) ⟨Nat.le_of_ble_eq_true rfl, Nat.le_of_ble_eq_true rfl⟩) hK hZ hA hP hD hS [0, 1, 2, 3, 4, 5, 6] [] rfl rfl (by decide) (by decide) (by decide) 0 0 rfl rfl rfl hl.1 (Nat.le_of_ble_eq_true rfl) ⟨Nat.le_of_ble_eq_true rfl, Nat.le_of_ble_eq_true rfl⟩ rfl dX1_sings_2 (fun ce9 q9 u9 H locs hw9 hP hD hS hce hcv hcl => ?_) (fun u9 H locs hw9 hP hD hS => ?_)
  · skip
    have hx2 : isIx pa0 (nr + nc) = false := hw9
    have hP : va_P G.1 CL (VTW G vh ph th svh hs9 ah bh lh rh fa9 rf9 de9 ++ PW G ph pd nr nc pL pG pB pk pa pt pm) _ := hP
    have hD : va_D A (VTW G vh ph th svh hs9 ah bh lh rh fa9 rf9 de9 ++ PW G ph pd nr nc pL pG pB pk pa pt pm) := hD
    have hcl : s.vm.findClass RJ13 = some ce9.cls := hcl
    subst hQ
    refine vx_widen (k := 1) (n := 6) (Nat.le_of_ble_eq_true rfl) (Nat.le_of_ble_eq_true rfl) ?_
    exact out_x (by rw [hnt]; exact fun x9 hx9 => nomatch hx9) hlk () hx2 hP hD hS hce hcv hcl (Nat.le_refl _) (Nat.le_refl _)
  refine W.widen (k := 1) (n := 6) (Nat.le_refl _) (Nat.le_refl _) ?_
  have hw2 : isIx pa0 (nr + nc) = true := hw9
  have hP : va_P G.1 CL (VTW G vh ph th svh hs9 ah bh lh rh fa9 rf9 de9 ++ PW G ph pd nr nc pL pG pB pk pa pt pm) _ := hP
  have hD : va_D A (VTW G vh ph th svh hs9 ah bh lh rh fa9 rf9 de9 ++ PW G ph pd nr nc pL pG pB pk pa pt pm) := hD
  obtain ⟨pp, pp1, rfl⟩ := isIx_t hw2 (by omega)
  refine lv_aload_n hx hb dX1_sings_5 rfl (lv_at hl 0 rfl) ?_
  refine va_get (D := G.1) (ci := 0) (v := .ref ph) (C := RX1) (T := TX1) (N := 11) hx hb hts in_X1 hown hK hP 0 rfl rfl 0 (by decide) (hts _ q428) (fun _ h9 => h9) rfl dX1_sings_6 ?_
  refine lv_iload_n hx hb dX1_sings_9 rfl (lv_at hl 1 rfl) ?_
  refine callVi (As := [.int (nI pp)]) (rest := []) (wc := (PW G ph pd nr nc pL pG pB pk pa pt pm)) (wr := (VTW G vh ph th svh hs9 ah bh lh rh fa9 rf9 de9)) ⟨hx, hb, hml, hown, hts⟩ (m_X2_sings l G ph pd nr nc pL pG pB pk pa pt pm pp (by first | assumption | omega) (by first | assumption | omega) (by first | assumption | omega)) (cwV 1 hts (lw_V q576 q577 q578 q89 q579) rfl rfl rfl (by decide +kernel) ⟨Nat.le_of_ble_eq_true rfl, Nat.le_of_ble_eq_true rfl⟩) hK hZ hA hP hD hS [1, 2, 3, 4, 5, 6] [0] rfl rfl (by decide) (by decide) (by decide) 0 1 rfl rfl rfl hl.1 (Nat.le_of_ble_eq_true rfl) ⟨Nat.le_of_ble_eq_true rfl, Nat.le_of_ble_eq_true rfl⟩ rfl dX1_sings_10 (fun r9 u9 H locs hw9 hP hD hS => ?_)
  subst hw9
  have hP : va_P G.1 CL (VTW G vh ph th svh hs9 ah bh lh rh fa9 rf9 de9 ++ PW G ph pd nr nc pL pG pB pk pa pt pm) _ := hP
  have hD : va_D A (VTW G vh ph th svh hs9 ah bh lh rh fa9 rf9 de9 ++ PW G ph pd nr nc pL pG pB pk pa pt pm) := hD
  subst hQ
  refine vx_ret ?_
  exact ret_i hx hb hr hlk () ⟨(congrArg bI (by rw [cl_n (by omega)])), hw2⟩ hP hD hS (bI_nar _) dX1_sings_13
set_option maxHeartbeats 4000000 in
set_option maxRecDepth 100000 in
theorem m_X1_best (l : Launch) (G : GG) (vh : Nat) (ph : Nat) (th : Nat) (svh : Nat) (hs9 : Bool) (ah : Nat) (bh : Nat) (lh : Nat) (rh : Nat) (fa9 : Int32) (rf9 : Int32) (de9 : Int32) (pd : Nat → Nat) (nr : Nat) (nc : Nat) (pL : Nat → Nat) (pG : Nat → Nat) (pB : Nat → Bool) (pk : Nat → Int32) (pa : Nat → Nat) (pt : Nat → Nat) (pm : Nat) (hd : 2 ≤ nr ∧ nr ≤ 3 ∧ 2 ≤ nc ∧ nc ≤ 3) (hL : ∀ i, pL i < 65536) (hG : ∀ i, pG i < 65536) (hst : l.stackTraces = false) : MX l G yX1_best cX1_best 2 (some .int) ⟨7, 1, 6, 108⟩ [.ref vh] (VTW G vh ph th svh hs9 ah bh lh rh fa9 rf9 de9 ++ PW G ph pd nr nc pL pG pB pk pa pt pm) (Qi_ G (fun (r : Int32) (_ : Unit) => (r = nI (bsN nr nc pB pL pG (2 * (nr + nc)))) ∧ ((bsN nr nc pB pL pG (2 * (nr + nc))) < (2 * (nr + nc)))) (fun (_ : Unit) => (VTW G vh ph th svh hs9 ah bh lh rh fa9 rf9 de9 ++ PW G ph pd nr nc pL pG pB pk pa pt pm))) (XQ G (fun (_ : Unit) => RJ16) (fun (_ : Unit) => ¬ (bsN nr nc pB pL pG (2 * (nr + nc))) < (2 * (nr + nc))) (fun (q9 : Nat) (_ : Unit) => (VTW G vh ph th svh hs9 ah bh lh rh fa9 rf9 de9 ++ PW G ph pd nr nc pL pG pB pk pa pt pm))) := by
  refine MX.of (by decide) (Nat.le_of_ble_eq_true rfl) ?_
  intro p e s m args below meth cd A C hini hA hK hZ hP hD hnt ls hl
  generalize hQ : vx_MQ below ((Qi_ G (fun (r : Int32) (_ : Unit) => (r = nI (bsN nr nc pB pL pG (2 * (nr + nc)))) ∧ ((bsN nr nc pB pL pG (2 * (nr + nc))) < (2 * (nr + nc)))) (fun (_ : Unit) => (VTW G vh ph th svh hs9 ah bh lh rh fa9 rf9 de9 ++ PW G ph pd nr nc pL pG pB pk pa pt pm))) A) ((XQ G (fun (_ : Unit) => RJ16) (fun (_ : Unit) => ¬ (bsN nr nc pB pL pG (2 * (nr + nc))) < (2 * (nr + nc))) (fun (q9 : Nat) (_ : Unit) => (VTW G vh ph th svh hs9 ah bh lh rh fa9 rf9 de9 ++ PW G ph pd nr nc pL pG pB pk pa pt pm))) A) args s (⟨7, 1, 6, 108⟩ : Room).cells (⟨7, 1, 6, 108⟩ : Room).slots A = Q
  obtain ⟨hx, hb, hr, hts, hown, hlk, hml⟩ := C
  have hown : s.vm.findClass RX1 = some m.cls := hown
  have hS : va_S A s.heap s.heap [] := va_S.rf
  have hl : lv_has ls 2 [(0, .ref vh)] := hl
  have hmu := dm_mul hd
  refine lv_aload_n hx hb dX1_best_0 rfl (lv_at hl 0 rfl) ?_
  refine va_get (D := G.1) (ci := 0) (v := .ref ph) (C := RX1) (T := TX1) (N := 11) hx hb hts in_X1 hown hK hP 0 rfl rfl 0 (by decide) (hts _ q428) (fun _ h9 => h9) rfl dX1_best_1 ?_
  refine callVi (As := []) (rest := []) (wc := (PW G ph pd nr nc pL pG pB pk pa pt pm)) (wr := (VTW G vh ph th svh hs9 ah bh lh rh fa9 rf9 de9)) ⟨hx, hb, hml, hown, hts⟩ (m_X2_best l G ph pd nr nc pL pG pB pk pa pt pm (by first | assumption | omega) (by first | assumption | omega) (by first | assumption | omega)) (cwV 0 hts (lw_V q1435 q1436 q1437 q89 q1438) rfl rfl rfl (by decide +kernel) ⟨Nat.le_of_ble_eq_true rfl, Nat.le_of_ble_eq_true rfl⟩) hK hZ hA hP hD hS [1, 2, 3, 4, 5, 6] [0] rfl rfl (by decide) (by decide) (by decide) 0 1 rfl rfl rfl hl.1 (Nat.le_of_ble_eq_true rfl) ⟨Nat.le_of_ble_eq_true rfl, Nat.le_of_ble_eq_true rfl⟩ rfl dX1_best_4 (fun r9 u9 H locs hw9 hP hD hS => ?_)
  subst hw9
  have hP : va_P G.1 CL (VTW G vh ph th svh hs9 ah bh lh rh fa9 rf9 de9 ++ PW G ph pd nr nc pL pG pB pk pa pt pm) _ := hP
  have hD : va_D A (VTW G vh ph th svh hs9 ah bh lh rh fa9 rf9 de9 ++ PW G ph pd nr nc pL pG pB pk pa pt pm) := hD
  refine lv_istore_n (lv' := [(1, .int (oN (2 * (nr + nc)) (bsN nr nc pB pL pG (2 * (nr + nc))))), (0, .ref vh)]) hx hb dX1_best_7 rfl hl (by decide) rfl (fun ls hl => ?_)
  refine lv_iload_n hx hb dX1_best_8 rfl (lv_at hl 0 rfl) ?_
  refine lv_iconst (v := (-1)) hx hb dX1_best_9 (by decide) ?_
  refine lv_icmp_eq (tgt := 17) hx hb dX1_best_10 (by decide) (fun c10 => ?_) (fun c10 => ?_)
  · skip
    have hbn : ¬ (bsN nr nc pB pL pG (2 * (nr + nc))) < (2 * (nr + nc)) := (oN_m1 (by omega)).mp c10
    refine lv_iconst (v := nI 0) hx hb dX1_best_17 (by decide) ?_
    refine callXSv (As := [.int (nI 0)]) (rest := []) (wc := ([] : va_W)) (wr := (VTW G vh ph th svh hs9 ah bh lh rh fa9 rf9 de9 ++ PW G ph pd nr nc pL pG pB pk pa pt pm)) ⟨hx, hb, hml, hown, hts⟩ (m_X1_checkElement l G false (by first | assumption | omega)) (va_cwS 1 hts (lw_S q1348 q1349 q88 q1350) rfl rfl rfl (by decide +kernel) ⟨Nat.le_of_ble_eq_true rfl, Nat.le_of_ble_eq_true rfl⟩) hK hZ hA hP hD hS [] [0, 1, 2, 3, 4, 5, 6] rfl rfl (by decide) (by decide) (by decide) rfl hl.1 (Nat.le_of_ble_eq_true rfl) ⟨Nat.le_of_ble_eq_true rfl, Nat.le_of_ble_eq_true rfl⟩ rfl dX1_best_18 (fun ce9 q9 u9 H locs hw9 hP hD hS hce hcv hcl => ?_) (fun u9 H locs hw9 hP hD hS => ?_)
    · skip
      have hx18 : false = false := hw9
      have hP : va_P G.1 CL (VTW G vh ph th svh hs9 ah bh lh rh fa9 rf9 de9 ++ PW G ph pd nr nc pL pG pB pk pa pt pm) _ := hP
      have hD : va_D A (VTW G vh ph th svh hs9 ah bh lh rh fa9 rf9 de9 ++ PW G ph pd nr nc pL pG pB pk pa pt pm) := hD
      have hcl : s.vm.findClass RJ16 = some ce9.cls := hcl
      subst hQ
      refine vx_widen (k := 1) (n := 6) (Nat.le_of_ble_eq_true rfl) (Nat.le_of_ble_eq_true rfl) ?_
      exact out_x (by rw [hnt]; exact fun x9 hx9 => nomatch hx9) hlk () hbn hP hD hS hce hcv hcl (Nat.le_refl _) (Nat.le_refl _)
    refine W.widen (k := 1) (n := 6) (Nat.le_refl _) (Nat.le_refl _) ?_
    have hw18 : false = true := hw9
    have hP : va_P G.1 CL (VTW G vh ph th svh hs9 ah bh lh rh fa9 rf9 de9 ++ PW G ph pd nr nc pL pG pB pk pa pt pm) _ := hP
    have hD : va_D A (VTW G vh ph th svh hs9 ah bh lh rh fa9 rf9 de9 ++ PW G ph pd nr nc pL pG pB pk pa pt pm) := hD
    exact absurd hw18 (by decide)
  · skip
    have hbn : (bsN nr nc pB pL pG (2 * (nr + nc))) < (2 * (nr + nc)) := Classical.not_not.mp (fun z => c10 (oN_ge z))
    refine lv_iconst (v := nI 1) hx hb dX1_best_13 (by decide) ?_
    refine lv_goto (tgt := 18) hx hb dX1_best_14 (by decide) ?_
    refine callXSv (As := [.int (nI 1)]) (rest := []) (wc := ([] : va_W)) (wr := (VTW G vh ph th svh hs9 ah bh lh rh fa9 rf9 de9 ++ PW G ph pd nr nc pL pG pB pk pa pt pm)) ⟨hx, hb, hml, hown, hts⟩ (m_X1_checkElement l G true (by first | assumption | omega)) (va_cwS 1 hts (lw_S q1348 q1349 q88 q1350) rfl rfl rfl (by decide +kernel) ⟨Nat.le_of_ble_eq_true rfl, Nat.le_of_ble_eq_true rfl⟩) hK hZ hA hP hD hS [] [0, 1, 2, 3, 4, 5, 6] rfl rfl (by decide) (by decide) (by decide) rfl hl.1 (Nat.le_of_ble_eq_true rfl) ⟨Nat.le_of_ble_eq_true rfl, Nat.le_of_ble_eq_true rfl⟩ rfl dX1_best_18 (fun ce9 q9 u9 H locs hw9 hP hD hS hce hcv hcl => ?_) (fun u9 H locs hw9 hP hD hS => ?_)
    · skip
      have hx18 : true = false := hw9
      have hP : va_P G.1 CL (VTW G vh ph th svh hs9 ah bh lh rh fa9 rf9 de9 ++ PW G ph pd nr nc pL pG pB pk pa pt pm) _ := hP
      have hD : va_D A (VTW G vh ph th svh hs9 ah bh lh rh fa9 rf9 de9 ++ PW G ph pd nr nc pL pG pB pk pa pt pm) := hD
      exact absurd hx18 (by decide)
    refine W.widen (k := 1) (n := 6) (Nat.le_refl _) (Nat.le_refl _) ?_
    have hw18 : true = true := hw9
    have hP : va_P G.1 CL (VTW G vh ph th svh hs9 ah bh lh rh fa9 rf9 de9 ++ PW G ph pd nr nc pL pG pB pk pa pt pm) _ := hP
    have hD : va_D A (VTW G vh ph th svh hs9 ah bh lh rh fa9 rf9 de9 ++ PW G ph pd nr nc pL pG pB pk pa pt pm) := hD
    refine lv_iload_n hx hb dX1_best_21 rfl (lv_at hl 0 rfl) ?_
    subst hQ
    refine vx_ret ?_
    exact ret_i hx hb hr hlk () ⟨(oN_lt hbn), hbn⟩ hP hD hS rfl dX1_best_22
set_option maxHeartbeats 4000000 in
set_option maxRecDepth 100000 in
theorem m_X1_far (l : Launch) (G : GG) (vh : Nat) (ph : Nat) (th : Nat) (svh : Nat) (hs9 : Bool) (ah : Nat) (bh : Nat) (lh : Nat) (rh : Nat) (fa9 : Int32) (rf9 : Int32) (de9 : Int32) (pd : Nat → Nat) (nr : Nat) (nc : Nat) (pL : Nat → Nat) (pG : Nat → Nat) (pB : Nat → Bool) (pk : Nat → Int32) (pa : Nat → Nat) (pt : Nat → Nat) (pm : Nat) (pa0 : Int32) (pb0 : Int32) (hd : 2 ≤ nr ∧ nr ≤ 3 ∧ 2 ≤ nc ∧ nc ≤ 3) (hst : l.stackTraces = false) : MX l G yX1_far cX1_far 3 (some .int) ⟨7, 1, 6, 101⟩ [.ref vh, .int pa0, .int pb0] (VTW G vh ph th svh hs9 ah bh lh rh fa9 rf9 de9 ++ PW G ph pd nr nc pL pG pB pk pa pt pm) (Qi_ G (fun (r : Int32) (_ : Unit) => (r = nI (farN nr nc (cl_ pa0) (cl_ pb0))) ∧ ((isIx pa0 (nr * nc) && isIx pb0 (nr * nc)) = true)) (fun (_ : Unit) => (VTW G vh ph th svh hs9 ah bh lh rh fa9 rf9 de9 ++ PW G ph pd nr nc pL pG pB pk pa pt pm))) (XQ G (fun (_ : Unit) => RJ13) (fun (_ : Unit) => (isIx pa0 (nr * nc) && isIx pb0 (nr * nc)) = false) (fun (q9 : Nat) (_ : Unit) => (VTW G vh ph th svh hs9 ah bh lh rh fa9 rf9 de9 ++ PW G ph pd nr nc pL pG pB pk pa pt pm))) := by
  refine MX.of (by decide) (Nat.le_of_ble_eq_true rfl) ?_
  intro p e s m args below meth cd A C hini hA hK hZ hP hD hnt ls hl
  generalize hQ : vx_MQ below ((Qi_ G (fun (r : Int32) (_ : Unit) => (r = nI (farN nr nc (cl_ pa0) (cl_ pb0))) ∧ ((isIx pa0 (nr * nc) && isIx pb0 (nr * nc)) = true)) (fun (_ : Unit) => (VTW G vh ph th svh hs9 ah bh lh rh fa9 rf9 de9 ++ PW G ph pd nr nc pL pG pB pk pa pt pm))) A) ((XQ G (fun (_ : Unit) => RJ13) (fun (_ : Unit) => (isIx pa0 (nr * nc) && isIx pb0 (nr * nc)) = false) (fun (q9 : Nat) (_ : Unit) => (VTW G vh ph th svh hs9 ah bh lh rh fa9 rf9 de9 ++ PW G ph pd nr nc pL pG pB pk pa pt pm))) A) args s (⟨7, 1, 6, 101⟩ : Room).cells (⟨7, 1, 6, 101⟩ : Room).slots A = Q
  obtain ⟨hx, hb, hr, hts, hown, hlk, hml⟩ := C
  have hown : s.vm.findClass RX1 = some m.cls := hown
  have hS : va_S A s.heap s.heap [] := va_S.rf
  have hl : lv_has ls 3 [(0, .ref vh), (1, .int pa0), (2, .int pb0)] := hl
  have hmu := dm_mul hd
  refine lv_aload_n hx hb dX1_far_0 rfl (lv_at hl 0 rfl) ?_
  refine va_get (D := G.1) (ci := 0) (v := .ref ph) (C := RX1) (T := TX1) (N := 11) hx hb hts in_X1 hown hK hP 0 rfl rfl 0 (by decide) (hts _ q428) (fun _ h9 => h9) rfl dX1_far_1 ?_
  refine lv_iload_n hx hb dX1_far_4 rfl (lv_at hl 1 rfl) ?_
  refine callVi (As := [.int pa0]) (rest := []) (wc := (PW G ph pd nr nc pL pG pB pk pa pt pm)) (wr := (VTW G vh ph th svh hs9 ah bh lh rh fa9 rf9 de9)) ⟨hx, hb, hml, hown, hts⟩ (m_X2_isPlace l G ph pd nr nc pL pG pB pk pa pt pm pa0 (by first | assumption | omega)) (cwV 1 hts (lw_V q1184 q1185 q1186 q89 q1187) rfl rfl rfl (by decide +kernel) ⟨Nat.le_of_ble_eq_true rfl, Nat.le_of_ble_eq_true rfl⟩) hK hZ hA hP hD hS [1, 2, 3, 4, 5, 6] [0] rfl rfl (by decide) (by decide) (by decide) 0 1 rfl rfl rfl hl.1 (Nat.le_of_ble_eq_true rfl) ⟨Nat.le_of_ble_eq_true rfl, Nat.le_of_ble_eq_true rfl⟩ rfl dX1_far_5 (fun r9 u9 H locs hw9 hP hD hS => ?_)
  subst hw9
  have hP : va_P G.1 CL (VTW G vh ph th svh hs9 ah bh lh rh fa9 rf9 de9 ++ PW G ph pd nr nc pL pG pB pk pa pt pm) _ := hP
  have hD : va_D A (VTW G vh ph th svh hs9 ah bh lh rh fa9 rf9 de9 ++ PW G ph pd nr nc pL pG pB pk pa pt pm) := hD
  refine b_if_eq (tgt := 26) hx hb dX1_far_8 (by decide) (fun c8 => ?_) (fun c8 => ?_)
  · skip
    refine lv_iconst (v := nI 0) hx hb dX1_far_26 (by decide) ?_
    refine callXSv (As := [.int (nI 0)]) (rest := []) (wc := ([] : va_W)) (wr := (VTW G vh ph th svh hs9 ah bh lh rh fa9 rf9 de9 ++ PW G ph pd nr nc pL pG pB pk pa pt pm)) ⟨hx, hb, hml, hown, hts⟩ (m_X1_checkIndex l G false (by first | assumption | omega)) (va_cwS 1 hts (lw_S q1189 q1190 q88 q1191) rfl rfl rfl (by decide +kernel) ⟨Nat.le_of_ble_eq_true rfl, Nat.le_of_ble_eq_true rfl⟩) hK hZ hA hP hD hS [] [0, 1, 2, 3, 4, 5, 6] rfl rfl (by decide) (by decide) (by decide) rfl hl.1 (Nat.le_of_ble_eq_true rfl) ⟨Nat.le_of_ble_eq_true rfl, Nat.le_of_ble_eq_true rfl⟩ rfl dX1_far_27 (fun ce9 q9 u9 H locs hw9 hP hD hS hce hcv hcl => ?_) (fun u9 H locs hw9 hP hD hS => ?_)
    · skip
      have hx27 : false = false := hw9
      have hP : va_P G.1 CL (VTW G vh ph th svh hs9 ah bh lh rh fa9 rf9 de9 ++ PW G ph pd nr nc pL pG pB pk pa pt pm) _ := hP
      have hD : va_D A (VTW G vh ph th svh hs9 ah bh lh rh fa9 rf9 de9 ++ PW G ph pd nr nc pL pG pB pk pa pt pm) := hD
      have hcl : s.vm.findClass RJ13 = some ce9.cls := hcl
      subst hQ
      refine vx_widen (k := 1) (n := 6) (Nat.le_of_ble_eq_true rfl) (Nat.le_of_ble_eq_true rfl) ?_
      exact out_x (by rw [hnt]; exact fun x9 hx9 => nomatch hx9) hlk () (by first | (rw [c8]; rfl) | (rw [c19, Bool.and_false])) hP hD hS hce hcv hcl (Nat.le_refl _) (Nat.le_refl _)
    refine W.widen (k := 1) (n := 6) (Nat.le_refl _) (Nat.le_refl _) ?_
    have hw27 : false = true := hw9
    have hP : va_P G.1 CL (VTW G vh ph th svh hs9 ah bh lh rh fa9 rf9 de9 ++ PW G ph pd nr nc pL pG pB pk pa pt pm) _ := hP
    have hD : va_D A (VTW G vh ph th svh hs9 ah bh lh rh fa9 rf9 de9 ++ PW G ph pd nr nc pL pG pB pk pa pt pm) := hD
    exact absurd hw27 (by decide)
  · skip
    refine lv_aload_n hx hb dX1_far_11 rfl (lv_at hl 0 rfl) ?_
    refine va_get (D := G.1) (ci := 0) (v := .ref ph) (C := RX1) (T := TX1) (N := 11) hx hb hts in_X1 hown hK hP 0 rfl rfl 0 (by decide) (hts _ q428) (fun _ h9 => h9) rfl dX1_far_12 ?_
    refine lv_iload_n hx hb dX1_far_15 rfl (lv_at hl 2 rfl) ?_
    refine callVi (As := [.int pb0]) (rest := []) (wc := (PW G ph pd nr nc pL pG pB pk pa pt pm)) (wr := (VTW G vh ph th svh hs9 ah bh lh rh fa9 rf9 de9)) ⟨hx, hb, hml, hown, hts⟩ (m_X2_isPlace l G ph pd nr nc pL pG pB pk pa pt pm pb0 (by first | assumption | omega)) (cwV 1 hts (lw_V q1184 q1185 q1186 q89 q1187) rfl rfl rfl (by decide +kernel) ⟨Nat.le_of_ble_eq_true rfl, Nat.le_of_ble_eq_true rfl⟩) hK hZ hA hP hD hS [1, 2, 3, 4, 5, 6] [0] rfl rfl (by decide) (by decide) (by decide) 0 1 rfl rfl rfl hl.1 (Nat.le_of_ble_eq_true rfl) ⟨Nat.le_of_ble_eq_true rfl, Nat.le_of_ble_eq_true rfl⟩ rfl dX1_far_16 (fun r9 u9 H locs hw9 hP hD hS => ?_)
    subst hw9
    have hP : va_P G.1 CL (VTW G vh ph th svh hs9 ah bh lh rh fa9 rf9 de9 ++ PW G ph pd nr nc pL pG pB pk pa pt pm) _ := hP
    have hD : va_D A (VTW G vh ph th svh hs9 ah bh lh rh fa9 rf9 de9 ++ PW G ph pd nr nc pL pG pB pk pa pt pm) := hD
    refine b_if_eq (tgt := 26) hx hb dX1_far_19 (by decide) (fun c19 => ?_) (fun c19 => ?_)
    · skip
      refine lv_iconst (v := nI 0) hx hb dX1_far_26 (by decide) ?_
      refine callXSv (As := [.int (nI 0)]) (rest := []) (wc := ([] : va_W)) (wr := (VTW G vh ph th svh hs9 ah bh lh rh fa9 rf9 de9 ++ PW G ph pd nr nc pL pG pB pk pa pt pm)) ⟨hx, hb, hml, hown, hts⟩ (m_X1_checkIndex l G false (by first | assumption | omega)) (va_cwS 1 hts (lw_S q1189 q1190 q88 q1191) rfl rfl rfl (by decide +kernel) ⟨Nat.le_of_ble_eq_true rfl, Nat.le_of_ble_eq_true rfl⟩) hK hZ hA hP hD hS [] [0, 1, 2, 3, 4, 5, 6] rfl rfl (by decide) (by decide) (by decide) rfl hl.1 (Nat.le_of_ble_eq_true rfl) ⟨Nat.le_of_ble_eq_true rfl, Nat.le_of_ble_eq_true rfl⟩ rfl dX1_far_27 (fun ce9 q9 u9 H locs hw9 hP hD hS hce hcv hcl => ?_) (fun u9 H locs hw9 hP hD hS => ?_)
      · skip
        have hx27 : false = false := hw9
        have hP : va_P G.1 CL (VTW G vh ph th svh hs9 ah bh lh rh fa9 rf9 de9 ++ PW G ph pd nr nc pL pG pB pk pa pt pm) _ := hP
        have hD : va_D A (VTW G vh ph th svh hs9 ah bh lh rh fa9 rf9 de9 ++ PW G ph pd nr nc pL pG pB pk pa pt pm) := hD
        have hcl : s.vm.findClass RJ13 = some ce9.cls := hcl
        subst hQ
        refine vx_widen (k := 1) (n := 6) (Nat.le_of_ble_eq_true rfl) (Nat.le_of_ble_eq_true rfl) ?_
        exact out_x (by rw [hnt]; exact fun x9 hx9 => nomatch hx9) hlk () (by first | (rw [c8]; rfl) | (rw [c19, Bool.and_false])) hP hD hS hce hcv hcl (Nat.le_refl _) (Nat.le_refl _)
      refine W.widen (k := 1) (n := 6) (Nat.le_refl _) (Nat.le_refl _) ?_
      have hw27 : false = true := hw9
      have hP : va_P G.1 CL (VTW G vh ph th svh hs9 ah bh lh rh fa9 rf9 de9 ++ PW G ph pd nr nc pL pG pB pk pa pt pm) _ := hP
      have hD : va_D A (VTW G vh ph th svh hs9 ah bh lh rh fa9 rf9 de9 ++ PW G ph pd nr nc pL pG pB pk pa pt pm) := hD
      exact absurd hw27 (by decide)
    · skip
      refine lv_iconst (v := nI 1) hx hb dX1_far_22 (by decide) ?_
      refine lv_goto (tgt := 27) hx hb dX1_far_23 (by decide) ?_
      refine callXSv (As := [.int (nI 1)]) (rest := []) (wc := ([] : va_W)) (wr := (VTW G vh ph th svh hs9 ah bh lh rh fa9 rf9 de9 ++ PW G ph pd nr nc pL pG pB pk pa pt pm)) ⟨hx, hb, hml, hown, hts⟩ (m_X1_checkIndex l G true (by first | assumption | omega)) (va_cwS 1 hts (lw_S q1189 q1190 q88 q1191) rfl rfl rfl (by decide +kernel) ⟨Nat.le_of_ble_eq_true rfl, Nat.le_of_ble_eq_true rfl⟩) hK hZ hA hP hD hS [] [0, 1, 2, 3, 4, 5, 6] rfl rfl (by decide) (by decide) (by decide) rfl hl.1 (Nat.le_of_ble_eq_true rfl) ⟨Nat.le_of_ble_eq_true rfl, Nat.le_of_ble_eq_true rfl⟩ rfl dX1_far_27 (fun ce9 q9 u9 H locs hw9 hP hD hS hce hcv hcl => ?_) (fun u9 H locs hw9 hP hD hS => ?_)
      · skip
        have hx27 : true = false := hw9
        have hP : va_P G.1 CL (VTW G vh ph th svh hs9 ah bh lh rh fa9 rf9 de9 ++ PW G ph pd nr nc pL pG pB pk pa pt pm) _ := hP
        have hD : va_D A (VTW G vh ph th svh hs9 ah bh lh rh fa9 rf9 de9 ++ PW G ph pd nr nc pL pG pB pk pa pt pm) := hD
        exact absurd hx27 (by decide)
      refine W.widen (k := 1) (n := 6) (Nat.le_refl _) (Nat.le_refl _) ?_
      have hw27 : true = true := hw9
      have hP : va_P G.1 CL (VTW G vh ph th svh hs9 ah bh lh rh fa9 rf9 de9 ++ PW G ph pd nr nc pL pG pB pk pa pt pm) _ := hP
      have hD : va_D A (VTW G vh ph th svh hs9 ah bh lh rh fa9 rf9 de9 ++ PW G ph pd nr nc pL pG pB pk pa pt pm) := hD
      obtain ⟨pp, pp1, rfl⟩ := isIx_t c8 (by omega)
      obtain ⟨pq, pq1, rfl⟩ := isIx_t c19 (by omega)
      refine lv_aload_n hx hb dX1_far_30 rfl (lv_at hl 0 rfl) ?_
      refine va_get (D := G.1) (ci := 0) (v := .ref ph) (C := RX1) (T := TX1) (N := 11) hx hb hts in_X1 hown hK hP 0 rfl rfl 0 (by decide) (hts _ q428) (fun _ h9 => h9) rfl dX1_far_31 ?_
      refine lv_iload_n hx hb dX1_far_34 rfl (lv_at hl 1 rfl) ?_
      refine lv_iload_n hx hb dX1_far_35 rfl (lv_at hl 2 rfl) ?_
      refine callVi (As := [.int (nI pp), .int (nI pq)]) (rest := []) (wc := (PW G ph pd nr nc pL pG pB pk pa pt pm)) (wr := (VTW G vh ph th svh hs9 ah bh lh rh fa9 rf9 de9)) ⟨hx, hb, hml, hown, hts⟩ (m_X2_far l G ph pd nr nc pL pG pB pk pa pt pm pp pq (by first | assumption | omega) (by first | assumption | omega) (by first | assumption | omega)) (cwV 2 hts (lw_V q1455 q1456 q1457 q89 q1458) rfl rfl rfl (by decide +kernel) ⟨Nat.le_of_ble_eq_true rfl, Nat.le_of_ble_eq_true rfl⟩) hK hZ hA hP hD hS [1, 2, 3, 4, 5, 6] [0] rfl rfl (by decide) (by decide) (by decide) 0 1 rfl rfl rfl hl.1 (Nat.le_of_ble_eq_true rfl) ⟨Nat.le_of_ble_eq_true rfl, Nat.le_of_ble_eq_true rfl⟩ rfl dX1_far_36 (fun r9 u9 H locs hw9 hP hD hS => ?_)
      subst hw9
      have hP : va_P G.1 CL (VTW G vh ph th svh hs9 ah bh lh rh fa9 rf9 de9 ++ PW G ph pd nr nc pL pG pB pk pa pt pm) _ := hP
      have hD : va_D A (VTW G vh ph th svh hs9 ah bh lh rh fa9 rf9 de9 ++ PW G ph pd nr nc pL pG pB pk pa pt pm) := hD
      subst hQ
      refine vx_ret ?_
      exact ret_i hx hb hr hlk () ⟨(congrArg nI (by rw [cl_n (by omega), cl_n (by omega)])), (by rw [c8, c19]; rfl)⟩ hP hD hS rfl dX1_far_39
set_option maxHeartbeats 4000000 in
set_option maxRecDepth 100000 in
theorem m_X1_where (l : Launch) (G : GG) (vh : Nat) (ph : Nat) (th : Nat) (svh : Nat) (hs9 : Bool) (ah : Nat) (bh : Nat) (lh : Nat) (rh : Nat) (fa9 : Int32) (rf9 : Int32) (de9 : Int32) (pd : Nat → Nat) (nr : Nat) (nc : Nat) (pL : Nat → Nat) (pG : Nat → Nat) (pB : Nat → Bool) (pk : Nat → Int32) (pa : Nat → Nat) (pt : Nat → Nat) (pm : Nat) (pa0 : Int32) (pb0 : Int32) (pc0 : Int32) (hd : 2 ≤ nr ∧ nr ≤ 3 ∧ 2 ≤ nc ∧ nc ≤ 3) (hst : l.stackTraces = false) : MX l G yX1_where cX1_where 4 (some .int) ⟨7, 2, 12, 101⟩ [.ref vh, .int pa0, .int pb0, .int pc0] (VTW G vh ph th svh hs9 ah bh lh rh fa9 rf9 de9 ++ PW G ph pd nr nc pL pG pB pk pa pt pm) (Qi_ G (fun (r : Int32) (_ : Unit) => (r = nI (whN nr nc (cl_ pa0) (cl_ pb0) (cl_ pc0))) ∧ ((isIx pa0 (nr * nc) && isIx pb0 (2 * (nr + nc))) = true ∧ (decide (nI 0 ≤ pc0 ∧ pc0 ≤ nI 99)) = true)) (fun (_ : Unit) => (VTW G vh ph th svh hs9 ah bh lh rh fa9 rf9 de9 ++ PW G ph pd nr nc pL pG pB pk pa pt pm))) (XQ G (fun (u : (Nat)) => (kT2 RJ13 RJ12 u)) (fun (u : (Nat)) => (u = 1 ∧ (isIx pa0 (nr * nc) && isIx pb0 (2 * (nr + nc))) = false) ∨ (u = 2 ∧ (isIx pa0 (nr * nc) && isIx pb0 (2 * (nr + nc))) = true ∧ (decide (nI 0 ≤ pc0 ∧ pc0 ≤ nI 99)) = false)) (fun (q9 : Nat) (u : (Nat)) => (VTW G vh ph th svh hs9 ah bh lh rh fa9 rf9 de9 ++ PW G ph pd nr nc pL pG pB pk pa pt pm))) := by
  refine MX.of (by decide) (Nat.le_of_ble_eq_true rfl) ?_
  intro p e s m args below meth cd A C hini hA hK hZ hP hD hnt ls hl
  generalize hQ : vx_MQ below ((Qi_ G (fun (r : Int32) (_ : Unit) => (r = nI (whN nr nc (cl_ pa0) (cl_ pb0) (cl_ pc0))) ∧ ((isIx pa0 (nr * nc) && isIx pb0 (2 * (nr + nc))) = true ∧ (decide (nI 0 ≤ pc0 ∧ pc0 ≤ nI 99)) = true)) (fun (_ : Unit) => (VTW G vh ph th svh hs9 ah bh lh rh fa9 rf9 de9 ++ PW G ph pd nr nc pL pG pB pk pa pt pm))) A) ((XQ G (fun (u : (Nat)) => (kT2 RJ13 RJ12 u)) (fun (u : (Nat)) => (u = 1 ∧ (isIx pa0 (nr * nc) && isIx pb0 (2 * (nr + nc))) = false) ∨ (u = 2 ∧ (isIx pa0 (nr * nc) && isIx pb0 (2 * (nr + nc))) = true ∧ (decide (nI 0 ≤ pc0 ∧ pc0 ≤ nI 99)) = false)) (fun (q9 : Nat) (u : (Nat)) => (VTW G vh ph th svh hs9 ah bh lh rh fa9 rf9 de9 ++ PW G ph pd nr nc pL pG pB pk pa pt pm))) A) args s (⟨7, 2, 12, 101⟩ : Room).cells (⟨7, 2, 12, 101⟩ : Room).slots A = Q
  obtain ⟨hx, hb, hr, hts, hown, hlk, hml⟩ := C
  have hown : s.vm.findClass RX1 = some m.cls := hown
  have hS : va_S A s.heap s.heap [] := va_S.rf
  have hl : lv_has ls 4 [(0, .ref vh), (1, .int pa0), (2, .int pb0), (3, .int pc0)] := hl
  have hmu := dm_mul hd
  refine lv_aload_n hx hb dX1_where_0 rfl (lv_at hl 0 rfl) ?_
  refine va_get (D := G.1) (ci := 0) (v := .ref ph) (C := RX1) (T := TX1) (N := 11) hx hb hts in_X1 hown hK hP 0 rfl rfl 0 (by decide) (hts _ q428) (fun _ h9 => h9) rfl dX1_where_1 ?_
  refine lv_iload_n hx hb dX1_where_4 rfl (lv_at hl 1 rfl) ?_
  refine callVi (As := [.int pa0]) (rest := []) (wc := (PW G ph pd nr nc pL pG pB pk pa pt pm)) (wr := (VTW G vh ph th svh hs9 ah bh lh rh fa9 rf9 de9)) ⟨hx, hb, hml, hown, hts⟩ (m_X2_isPlace l G ph pd nr nc pL pG pB pk pa pt pm pa0 (by first | assumption | omega)) (cwV 1 hts (lw_V q1184 q1185 q1186 q89 q1187) rfl rfl rfl (by decide +kernel) ⟨Nat.le_of_ble_eq_true rfl, Nat.le_of_ble_eq_true rfl⟩) hK hZ hA hP hD hS [1, 2, 3, 4, 5, 6] [0] rfl rfl (by decide) (by decide) (by decide) 0 1 rfl rfl rfl hl.1 (Nat.le_of_ble_eq_true rfl) ⟨Nat.le_of_ble_eq_true rfl, Nat.le_of_ble_eq_true rfl⟩ rfl dX1_where_5 (fun r9 u9 H locs hw9 hP hD hS => ?_)
  subst hw9
  have hP : va_P G.1 CL (VTW G vh ph th svh hs9 ah bh lh rh fa9 rf9 de9 ++ PW G ph pd nr nc pL pG pB pk pa pt pm) _ := hP
  have hD : va_D A (VTW G vh ph th svh hs9 ah bh lh rh fa9 rf9 de9 ++ PW G ph pd nr nc pL pG pB pk pa pt pm) := hD
  refine b_if_eq (tgt := 26) hx hb dX1_where_8 (by decide) (fun c8 => ?_) (fun c8 => ?_)
  · skip
    refine lv_iconst (v := nI 0) hx hb dX1_where_26 (by decide) ?_
    refine callXSv (As := [.int (nI 0)]) (rest := []) (wc := ([] : va_W)) (wr := (VTW G vh ph th svh hs9 ah bh lh rh fa9 rf9 de9 ++ PW G ph pd nr nc pL pG pB pk pa pt pm)) ⟨hx, hb, hml, hown, hts⟩ (m_X1_checkIndex l G false (by first | assumption | omega)) (va_cwS 1 hts (lw_S q1189 q1190 q88 q1191) rfl rfl rfl (by decide +kernel) ⟨Nat.le_of_ble_eq_true rfl, Nat.le_of_ble_eq_true rfl⟩) hK hZ hA hP hD hS [] [0, 1, 2, 3, 4, 5, 6] rfl rfl (by decide) (by decide) (by decide) rfl hl.1 (Nat.le_of_ble_eq_true rfl) ⟨Nat.le_of_ble_eq_true rfl, Nat.le_of_ble_eq_true rfl⟩ rfl dX1_where_27 (fun ce9 q9 u9 H locs hw9 hP hD hS hce hcv hcl => ?_) (fun u9 H locs hw9 hP hD hS => ?_)
    · skip
      have hx27 : false = false := hw9
      have hP : va_P G.1 CL (VTW G vh ph th svh hs9 ah bh lh rh fa9 rf9 de9 ++ PW G ph pd nr nc pL pG pB pk pa pt pm) _ := hP
      have hD : va_D A (VTW G vh ph th svh hs9 ah bh lh rh fa9 rf9 de9 ++ PW G ph pd nr nc pL pG pB pk pa pt pm) := hD
      have hcl : s.vm.findClass RJ13 = some ce9.cls := hcl
      subst hQ
      refine vx_widen (k := 2) (n := 12) (Nat.le_of_ble_eq_true rfl) (Nat.le_of_ble_eq_true rfl) ?_
      exact out_x (by rw [hnt]; exact fun x9 hx9 => nomatch hx9) hlk 1 (Or.inl ⟨rfl, by first | (rw [c8]; rfl) | (rw [c19, Bool.and_false])⟩) hP hD hS hce hcv hcl (Nat.le_refl _) (Nat.le_refl _)
    refine W.widen (k := 1) (n := 6) (Nat.le_refl _) (Nat.le_refl _) ?_
    have hw27 : false = true := hw9
    have hP : va_P G.1 CL (VTW G vh ph th svh hs9 ah bh lh rh fa9 rf9 de9 ++ PW G ph pd nr nc pL pG pB pk pa pt pm) _ := hP
    have hD : va_D A (VTW G vh ph th svh hs9 ah bh lh rh fa9 rf9 de9 ++ PW G ph pd nr nc pL pG pB pk pa pt pm) := hD
    exact absurd hw27 (by decide)
  · skip
    refine lv_aload_n hx hb dX1_where_11 rfl (lv_at hl 0 rfl) ?_
    refine va_get (D := G.1) (ci := 0) (v := .ref ph) (C := RX1) (T := TX1) (N := 11) hx hb hts in_X1 hown hK hP 0 rfl rfl 0 (by decide) (hts _ q428) (fun _ h9 => h9) rfl dX1_where_12 ?_
    refine lv_iload_n hx hb dX1_where_15 rfl (lv_at hl 2 rfl) ?_
    refine callVi (As := [.int pb0]) (rest := []) (wc := (PW G ph pd nr nc pL pG pB pk pa pt pm)) (wr := (VTW G vh ph th svh hs9 ah bh lh rh fa9 rf9 de9)) ⟨hx, hb, hml, hown, hts⟩ (m_X2_isTurn l G ph pd nr nc pL pG pB pk pa pt pm pb0 (by first | assumption | omega)) (cwV 1 hts (lw_V q1276 q1277 q1278 q89 q1279) rfl rfl rfl (by decide +kernel) ⟨Nat.le_of_ble_eq_true rfl, Nat.le_of_ble_eq_true rfl⟩) hK hZ hA hP hD hS [1, 2, 3, 4, 5, 6] [0] rfl rfl (by decide) (by decide) (by decide) 0 1 rfl rfl rfl hl.1 (Nat.le_of_ble_eq_true rfl) ⟨Nat.le_of_ble_eq_true rfl, Nat.le_of_ble_eq_true rfl⟩ rfl dX1_where_16 (fun r9 u9 H locs hw9 hP hD hS => ?_)
    subst hw9
    have hP : va_P G.1 CL (VTW G vh ph th svh hs9 ah bh lh rh fa9 rf9 de9 ++ PW G ph pd nr nc pL pG pB pk pa pt pm) _ := hP
    have hD : va_D A (VTW G vh ph th svh hs9 ah bh lh rh fa9 rf9 de9 ++ PW G ph pd nr nc pL pG pB pk pa pt pm) := hD
    refine b_if_eq (tgt := 26) hx hb dX1_where_19 (by decide) (fun c19 => ?_) (fun c19 => ?_)
    · skip
      refine lv_iconst (v := nI 0) hx hb dX1_where_26 (by decide) ?_
      refine callXSv (As := [.int (nI 0)]) (rest := []) (wc := ([] : va_W)) (wr := (VTW G vh ph th svh hs9 ah bh lh rh fa9 rf9 de9 ++ PW G ph pd nr nc pL pG pB pk pa pt pm)) ⟨hx, hb, hml, hown, hts⟩ (m_X1_checkIndex l G false (by first | assumption | omega)) (va_cwS 1 hts (lw_S q1189 q1190 q88 q1191) rfl rfl rfl (by decide +kernel) ⟨Nat.le_of_ble_eq_true rfl, Nat.le_of_ble_eq_true rfl⟩) hK hZ hA hP hD hS [] [0, 1, 2, 3, 4, 5, 6] rfl rfl (by decide) (by decide) (by decide) rfl hl.1 (Nat.le_of_ble_eq_true rfl) ⟨Nat.le_of_ble_eq_true rfl, Nat.le_of_ble_eq_true rfl⟩ rfl dX1_where_27 (fun ce9 q9 u9 H locs hw9 hP hD hS hce hcv hcl => ?_) (fun u9 H locs hw9 hP hD hS => ?_)
      · skip
        have hx27 : false = false := hw9
        have hP : va_P G.1 CL (VTW G vh ph th svh hs9 ah bh lh rh fa9 rf9 de9 ++ PW G ph pd nr nc pL pG pB pk pa pt pm) _ := hP
        have hD : va_D A (VTW G vh ph th svh hs9 ah bh lh rh fa9 rf9 de9 ++ PW G ph pd nr nc pL pG pB pk pa pt pm) := hD
        have hcl : s.vm.findClass RJ13 = some ce9.cls := hcl
        subst hQ
        refine vx_widen (k := 2) (n := 12) (Nat.le_of_ble_eq_true rfl) (Nat.le_of_ble_eq_true rfl) ?_
        exact out_x (by rw [hnt]; exact fun x9 hx9 => nomatch hx9) hlk 1 (Or.inl ⟨rfl, by first | (rw [c8]; rfl) | (rw [c19, Bool.and_false])⟩) hP hD hS hce hcv hcl (Nat.le_refl _) (Nat.le_refl _)
      refine W.widen (k := 1) (n := 6) (Nat.le_refl _) (Nat.le_refl _) ?_
      have hw27 : false = true := hw9
      have hP : va_P G.1 CL (VTW G vh ph th svh hs9 ah bh lh rh fa9 rf9 de9 ++ PW G ph pd nr nc pL pG pB pk pa pt pm) _ := hP
      have hD : va_D A (VTW G vh ph th svh hs9 ah bh lh rh fa9 rf9 de9 ++ PW G ph pd nr nc pL pG pB pk pa pt pm) := hD
      exact absurd hw27 (by decide)
    · skip
      refine lv_iconst (v := nI 1) hx hb dX1_where_22 (by decide) ?_
      refine lv_goto (tgt := 27) hx hb dX1_where_23 (by decide) ?_
      refine callXSv (As := [.int (nI 1)]) (rest := []) (wc := ([] : va_W)) (wr := (VTW G vh ph th svh hs9 ah bh lh rh fa9 rf9 de9 ++ PW G ph pd nr nc pL pG pB pk pa pt pm)) ⟨hx, hb, hml, hown, hts⟩ (m_X1_checkIndex l G true (by first | assumption | omega)) (va_cwS 1 hts (lw_S q1189 q1190 q88 q1191) rfl rfl rfl (by decide +kernel) ⟨Nat.le_of_ble_eq_true rfl, Nat.le_of_ble_eq_true rfl⟩) hK hZ hA hP hD hS [] [0, 1, 2, 3, 4, 5, 6] rfl rfl (by decide) (by decide) (by decide) rfl hl.1 (Nat.le_of_ble_eq_true rfl) ⟨Nat.le_of_ble_eq_true rfl, Nat.le_of_ble_eq_true rfl⟩ rfl dX1_where_27 (fun ce9 q9 u9 H locs hw9 hP hD hS hce hcv hcl => ?_) (fun u9 H locs hw9 hP hD hS => ?_)
      · skip
        have hx27 : true = false := hw9
        have hP : va_P G.1 CL (VTW G vh ph th svh hs9 ah bh lh rh fa9 rf9 de9 ++ PW G ph pd nr nc pL pG pB pk pa pt pm) _ := hP
        have hD : va_D A (VTW G vh ph th svh hs9 ah bh lh rh fa9 rf9 de9 ++ PW G ph pd nr nc pL pG pB pk pa pt pm) := hD
        exact absurd hx27 (by decide)
      refine W.widen (k := 1) (n := 6) (Nat.le_refl _) (Nat.le_refl _) ?_
      have hw27 : true = true := hw9
      have hP : va_P G.1 CL (VTW G vh ph th svh hs9 ah bh lh rh fa9 rf9 de9 ++ PW G ph pd nr nc pL pG pB pk pa pt pm) _ := hP
      have hD : va_D A (VTW G vh ph th svh hs9 ah bh lh rh fa9 rf9 de9 ++ PW G ph pd nr nc pL pG pB pk pa pt pm) := hD
      refine lv_iload_n hx hb dX1_where_30 rfl (lv_at hl 3 rfl) ?_
      refine lv_iconst (v := nI 0) hx hb dX1_where_31 (by decide) ?_
      refine lv_bipush (v := nI 99) hx hb dX1_where_32 (by decide) ?_
      refine callSi (As := [.int pc0, .int (nI 0), .int (nI 99)]) (rest := []) (wc := ([] : va_W)) (wr := (VTW G vh ph th svh hs9 ah bh lh rh fa9 rf9 de9 ++ PW G ph pd nr nc pL pG pB pk pa pt pm)) ⟨hx, hb, hml, hown, hts⟩ (m_X1_in l G pc0 (nI 0) (nI 99) ) (va_cwS 3 hts (lw_S q1113 q1114 q88 q1115) rfl rfl rfl (by decide +kernel) ⟨Nat.le_of_ble_eq_true rfl, Nat.le_of_ble_eq_true rfl⟩) hK hZ hA hP hD hS [] [0, 1, 2, 3, 4, 5, 6] rfl rfl (by decide) (by decide) (by decide) rfl hl.1 (Nat.le_of_ble_eq_true rfl) ⟨Nat.le_of_ble_eq_true rfl, Nat.le_of_ble_eq_true rfl⟩ rfl dX1_where_34 (fun r9 u9 H locs hw9 hP hD hS => ?_)
      subst hw9
      have hP : va_P G.1 CL (VTW G vh ph th svh hs9 ah bh lh rh fa9 rf9 de9 ++ PW G ph pd nr nc pL pG pB pk pa pt pm) _ := hP
      have hD : va_D A (VTW G vh ph th svh hs9 ah bh lh rh fa9 rf9 de9 ++ PW G ph pd nr nc pL pG pB pk pa pt pm) := hD
      refine callXSv (As := [.int (bI (decide ((nI 0) ≤ pc0 ∧ pc0 ≤ (nI 99))))]) (rest := []) (wc := ([] : va_W)) (wr := (VTW G vh ph th svh hs9 ah bh lh rh fa9 rf9 de9 ++ PW G ph pd nr nc pL pG pB pk pa pt pm)) ⟨hx, hb, hml, hown, hts⟩ (m_X1_check l G (decide ((nI 0) ≤ pc0 ∧ pc0 ≤ (nI 99))) (by first | assumption | omega)) (va_cwS 1 hts (lw_S q1116 q1117 q88 q1118) rfl rfl rfl (by decide +kernel) ⟨Nat.le_of_ble_eq_true rfl, Nat.le_of_ble_eq_true rfl⟩) hK hZ hA hP hD hS [] [0, 1, 2, 3, 4, 5, 6] rfl rfl (by decide) (by decide) (by decide) rfl hl.1 (Nat.le_of_ble_eq_true rfl) ⟨Nat.le_of_ble_eq_true rfl, Nat.le_of_ble_eq_true rfl⟩ rfl dX1_where_37 (fun ce9 q9 u9 H locs hw9 hP hD hS hce hcv hcl => ?_) (fun u9 H locs hw9 hP hD hS => ?_)
      · skip
        have hx37 : (decide ((nI 0) ≤ pc0 ∧ pc0 ≤ (nI 99))) = false := hw9
        have hP : va_P G.1 CL (VTW G vh ph th svh hs9 ah bh lh rh fa9 rf9 de9 ++ PW G ph pd nr nc pL pG pB pk pa pt pm) _ := hP
        have hD : va_D A (VTW G vh ph th svh hs9 ah bh lh rh fa9 rf9 de9 ++ PW G ph pd nr nc pL pG pB pk pa pt pm) := hD
        have hcl : s.vm.findClass RJ12 = some ce9.cls := hcl
        subst hQ
        refine vx_widen (k := 2) (n := 12) (Nat.le_of_ble_eq_true rfl) (Nat.le_of_ble_eq_true rfl) ?_
        exact out_x (by rw [hnt]; exact fun x9 hx9 => nomatch hx9) hlk 2 (Or.inr ⟨rfl, by rw [c8, c19]; rfl, hx37⟩) hP hD hS hce hcv hcl (Nat.le_refl _) (Nat.le_refl _)
      refine W.widen (k := 2) (n := 12) (Nat.le_refl _) (Nat.le_refl _) ?_
      have hw37b : (decide ((nI 0) ≤ pc0 ∧ pc0 ≤ (nI 99))) = true := hw9
      have hP : va_P G.1 CL (VTW G vh ph th svh hs9 ah bh lh rh fa9 rf9 de9 ++ PW G ph pd nr nc pL pG pB pk pa pt pm) _ := hP
      have hD : va_D A (VTW G vh ph th svh hs9 ah bh lh rh fa9 rf9 de9 ++ PW G ph pd nr nc pL pG pB pk pa pt pm) := hD
      obtain ⟨pp, pp1, rfl⟩ := isIx_t c8 (by omega)
      obtain ⟨pq, pq1, rfl⟩ := isIx_t c19 (by omega)
      obtain ⟨pr, pr1, pr2, rfl⟩ := inR_nI hw37b (by decide) (by decide)
      refine lv_aload_n hx hb dX1_where_40 rfl (lv_at hl 0 rfl) ?_
      refine va_get (D := G.1) (ci := 0) (v := .ref ph) (C := RX1) (T := TX1) (N := 11) hx hb hts in_X1 hown hK hP 0 rfl rfl 0 (by decide) (hts _ q428) (fun _ h9 => h9) rfl dX1_where_41 ?_
      refine lv_iload_n hx hb dX1_where_44 rfl (lv_at hl 1 rfl) ?_
      refine lv_iload_n hx hb dX1_where_45 rfl (lv_at hl 2 rfl) ?_
      refine lv_iload_n hx hb dX1_where_46 rfl (lv_at hl 3 rfl) ?_
      refine callVi (As := [.int (nI pp), .int (nI pq), .int (nI pr)]) (rest := []) (wc := (PW G ph pd nr nc pL pG pB pk pa pt pm)) (wr := (VTW G vh ph th svh hs9 ah bh lh rh fa9 rf9 de9)) ⟨hx, hb, hml, hown, hts⟩ (m_X2_where l G ph pd nr nc pL pG pB pk pa pt pm pp pq pr (by first | assumption | omega) (by first | assumption | omega) (by first | assumption | omega) (by first | assumption | omega)) (cwV 3 hts (lw_V q1447 q1070 q1071 q89 q1072) rfl rfl rfl (by decide +kernel) ⟨Nat.le_of_ble_eq_true rfl, Nat.le_of_ble_eq_true rfl⟩) hK hZ hA hP hD hS [1, 2, 3, 4, 5, 6] [0] rfl rfl (by decide) (by decide) (by decide) 0 1 rfl rfl rfl hl.1 (Nat.le_of_ble_eq_true rfl) ⟨Nat.le_of_ble_eq_true rfl, Nat.le_of_ble_eq_true rfl⟩ rfl dX1_where_47 (fun r9 u9 H locs hw9 hP hD hS => ?_)
      subst hw9
      have hP : va_P G.1 CL (VTW G vh ph th svh hs9 ah bh lh rh fa9 rf9 de9 ++ PW G ph pd nr nc pL pG pB pk pa pt pm) _ := hP
      have hD : va_D A (VTW G vh ph th svh hs9 ah bh lh rh fa9 rf9 de9 ++ PW G ph pd nr nc pL pG pB pk pa pt pm) := hD
      subst hQ
      refine vx_ret ?_
      exact ret_i hx hb hr hlk () ⟨(congrArg nI (by rw [cl_n (by omega), cl_n (by omega), cl_n (by omega)])), ⟨(by rw [c8, c19]; rfl), hw37b⟩⟩ hP hD hS rfl dX1_where_50
set_option maxHeartbeats 4000000 in
set_option maxRecDepth 100000 in
theorem m_X1_homeShare (l : Launch) (G : GG) (vh : Nat) (ph : Nat) (th : Nat) (svh : Nat) (hs9 : Bool) (ah : Nat) (bh : Nat) (lh : Nat) (rh : Nat) (fa9 : Int32) (rf9 : Int32) (de9 : Int32) (pd : Nat → Nat) (nr : Nat) (nc : Nat) (pL : Nat → Nat) (pG : Nat → Nat) (pB : Nat → Bool) (pk : Nat → Int32) (pa : Nat → Nat) (pt : Nat → Nat) (pm : Nat) (hd : 2 ≤ nr ∧ nr ≤ 3 ∧ 2 ≤ nc ∧ nc ≤ 3) (hL : ∀ i, pL i < 65536) (hG : ∀ i, pG i < 65536) : MM l G yX1_homeShare cX1_homeShare 1 (some .float) ⟨3, 0, 0, 64⟩ [.ref vh] (VTW G vh ph th svh hs9 ah bh lh rh fa9 rf9 de9 ++ PW G ph pd nr nc pL pG pB pk pa pt pm) (Qf_ G (fun (r : UInt32) (_ : Unit) => r = (FP.fdiv (FP.i2f (nI (hm nr nc pL pG))) (FP.i2f (nI (nr * nc))))) (fun (_ : Unit) => (VTW G vh ph th svh hs9 ah bh lh rh fa9 rf9 de9 ++ PW G ph pd nr nc pL pG pB pk pa pt pm))) := by
  refine MM.of (by decide) (Nat.le_of_ble_eq_true rfl) ?_
  intro p e s m args below meth cd A C hini hA hK hZ hP hD ls hl
  generalize hQ : MQ below ((Qf_ G (fun (r : UInt32) (_ : Unit) => r = (FP.fdiv (FP.i2f (nI (hm nr nc pL pG))) (FP.i2f (nI (nr * nc))))) (fun (_ : Unit) => (VTW G vh ph th svh hs9 ah bh lh rh fa9 rf9 de9 ++ PW G ph pd nr nc pL pG pB pk pa pt pm))) A) args s (⟨3, 0, 0, 64⟩ : Room).cells (⟨3, 0, 0, 64⟩ : Room).slots A = Q
  obtain ⟨hx, hb, hr, hts, hown, hlk, hml⟩ := C
  have hown : s.vm.findClass RX1 = some m.cls := hown
  have hS : va_S A s.heap s.heap [] := va_S.rf
  have hl : lv_has ls 1 [(0, .ref vh)] := hl
  have hmu := dm_mul hd
  refine lv_aload_n hx hb dX1_homeShare_0 rfl (lv_at hl 0 rfl) ?_
  refine va_get (D := G.1) (ci := 0) (v := .ref ph) (C := RX1) (T := TX1) (N := 11) hx hb hts in_X1 hown hK hP 0 rfl rfl 0 (by decide) (hts _ q428) (fun _ h9 => h9) rfl dX1_homeShare_1 ?_
  refine callVi (As := []) (rest := []) (wc := (PW G ph pd nr nc pL pG pB pk pa pt pm)) (wr := (VTW G vh ph th svh hs9 ah bh lh rh fa9 rf9 de9)) ⟨hx, hb, hml, hown, hts⟩ (m_X2_home l G ph pd nr nc pL pG pB pk pa pt pm (by first | assumption | omega) (by first | assumption | omega) (by first | assumption | omega)) (cwV 0 hts (lw_V q509 q510 q511 q89 q512) rfl rfl rfl (by decide +kernel) ⟨Nat.le_of_ble_eq_true rfl, Nat.le_of_ble_eq_true rfl⟩) hK hZ hA hP hD hS [1, 2, 3, 4, 5, 6] [0] rfl rfl (by decide) (by decide) (by decide) 0 1 rfl rfl rfl hl.1 (Nat.le_of_ble_eq_true rfl) ⟨Nat.le_of_ble_eq_true rfl, Nat.le_of_ble_eq_true rfl⟩ rfl dX1_homeShare_4 (fun r9 u9 H locs hw9 hP hD hS => ?_)
  subst hw9
  have hP : va_P G.1 CL (VTW G vh ph th svh hs9 ah bh lh rh fa9 rf9 de9 ++ PW G ph pd nr nc pL pG pB pk pa pt pm) _ := hP
  have hD : va_D A (VTW G vh ph th svh hs9 ah bh lh rh fa9 rf9 de9 ++ PW G ph pd nr nc pL pG pB pk pa pt pm) := hD
  refine lv_i2f hx hb dX1_homeShare_7 ?_
  refine lv_aload_n hx hb dX1_homeShare_8 rfl (lv_at hl 0 rfl) ?_
  refine va_get (D := G.1) (ci := 0) (v := .ref ph) (C := RX1) (T := TX1) (N := 11) hx hb hts in_X1 hown hK hP 0 rfl rfl 0 (by decide) (hts _ q428) (fun _ h9 => h9) rfl dX1_homeShare_9 ?_
  refine callVi (As := []) (rest := [.float (FP.i2f (nI (hm nr nc pL pG)))]) (wc := (PW G ph pd nr nc pL pG pB pk pa pt pm)) (wr := (VTW G vh ph th svh hs9 ah bh lh rh fa9 rf9 de9)) ⟨hx, hb, hml, hown, hts⟩ (m_X2_places l G ph pd nr nc pL pG pB pk pa pt pm ) (cwV 0 hts (lw_V q1093 q475 q476 q89 q477) rfl rfl rfl (by decide +kernel) ⟨Nat.le_of_ble_eq_true rfl, Nat.le_of_ble_eq_true rfl⟩) hK hZ hA hP hD hS [1, 2, 3, 4, 5, 6] [0] rfl rfl (by decide) (by decide) (by decide) 0 1 rfl rfl rfl hl.1 (Nat.le_of_ble_eq_true rfl) ⟨Nat.le_of_ble_eq_true rfl, Nat.le_of_ble_eq_true rfl⟩ rfl dX1_homeShare_12 (fun r9 u9 H locs hw9 hP hD hS => ?_)
  subst hw9
  have hP : va_P G.1 CL (VTW G vh ph th svh hs9 ah bh lh rh fa9 rf9 de9 ++ PW G ph pd nr nc pL pG pB pk pa pt pm) _ := hP
  have hD : va_D A (VTW G vh ph th svh hs9 ah bh lh rh fa9 rf9 de9 ++ PW G ph pd nr nc pL pG pB pk pa pt pm) := hD
  refine lv_i2f hx hb dX1_homeShare_15 ?_
  refine lv_fdiv hx hb dX1_homeShare_16 (fp_f (hm_lt9 hd _ _) (by omega) (by omega)).1 ?_
  subst hQ
  exact ret_f hx hb hr hlk () rfl hP hD hS dX1_homeShare_17
