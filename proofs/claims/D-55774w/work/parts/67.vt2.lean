set_option maxHeartbeats 4000000 in
set_option maxRecDepth 100000 in
theorem m_X1_isOut (l : Launch) (G : GG) (vh : Nat) (ph : Nat) (th : Nat) (svh : Nat) (hs9 : Bool) (ah : Nat) (bh : Nat) (lh : Nat) (rh : Nat) (fa9 : Int32) (rf9 : Int32) (de9 : Int32) (pd : Nat → Nat) (nr : Nat) (nc : Nat) (pL : Nat → Nat) (pG : Nat → Nat) (pB : Nat → Bool) (pk : Nat → Int32) (pa : Nat → Nat) (pt : Nat → Nat) (pm : Nat) (hd : 2 ≤ nr ∧ nr ≤ 3 ∧ 2 ≤ nc ∧ nc ≤ 3) (hL : ∀ i, pL i < 65536) (hG : ∀ i, pG i < 65536) (hp1 : pry pL pG (nr * nc) 1 = true → ∀ q, q < nr * nc → hoN (nr * nc) pL pG q < nr * nc) : MM l G yX1_isOut cX1_isOut 1 (some .boolean) ⟨5, 1, 9, 110⟩ [.ref vh] (VTW G vh ph th svh hs9 ah bh lh rh fa9 rf9 de9 ++ PW G ph pd nr nc pL pG pB pk pa pt pm) (Qi_ G (fun (r : Int32) (_ : Unit) => r = bI (otN nr nc pL pG)) (fun (_ : Unit) => (VTW G vh ph th svh hs9 ah bh lh rh fa9 rf9 de9 ++ PW G ph pd nr nc pL pG pB pk pa pt pm))) := by
  refine MM.of (by decide) (Nat.le_of_ble_eq_true rfl) ?_
  intro p e s m args below meth cd A C hini hA hK hZ hP hD ls hl
  generalize hQ : MQ below ((Qi_ G (fun (r : Int32) (_ : Unit) => r = bI (otN nr nc pL pG)) (fun (_ : Unit) => (VTW G vh ph th svh hs9 ah bh lh rh fa9 rf9 de9 ++ PW G ph pd nr nc pL pG pB pk pa pt pm))) A) args s (⟨5, 1, 9, 110⟩ : Room).cells (⟨5, 1, 9, 110⟩ : Room).slots A = Q
  obtain ⟨hx, hb, hr, hts, hown, hlk, hml⟩ := C
  have hown : s.vm.findClass RX1 = some m.cls := hown
  have hS : va_S A s.heap s.heap [] := va_S.rf
  have hl : lv_has ls 1 [(0, .ref vh)] := hl
  refine lv_aload_n hx hb dX1_isOut_0 rfl (lv_at hl 0 rfl) ?_
  refine va_get (D := G.1) (ci := 0) (v := .ref ph) (C := RX1) (T := TX1) (N := 11) hx hb hts in_X1 hown hK hP 0 rfl rfl 0 (by decide) (hts _ q428) (fun _ h9 => h9) rfl dX1_isOut_1 ?_
  refine callVi (As := []) (rest := []) (wc := (PW G ph pd nr nc pL pG pB pk pa pt pm)) (wr := (VTW G vh ph th svh hs9 ah bh lh rh fa9 rf9 de9)) ⟨hx, hb, hml, hown, hts⟩ (m_X2_isOut l G ph pd nr nc pL pG pB pk pa pt pm (by first | assumption | omega) (by first | assumption | omega) (by first | assumption | omega) (by first | assumption | omega)) (cwV 0 hts (lw_V q466 q467 q468 q89 q469) rfl rfl rfl (by decide +kernel) ⟨Nat.le_of_ble_eq_true rfl, Nat.le_of_ble_eq_true rfl⟩) hK hZ hA hP hD hS [1, 2, 3, 4, 5, 6] [0] rfl rfl (by decide) (by decide) (by decide) 0 1 rfl rfl rfl hl.1 (Nat.le_of_ble_eq_true rfl) ⟨Nat.le_of_ble_eq_true rfl, Nat.le_of_ble_eq_true rfl⟩ rfl dX1_isOut_4 (fun r9 u9 H locs hw9 hP hD hS => ?_)
  refine W.widen (k := 1) (n := 9) (Nat.le_refl _) (Nat.le_refl _) ?_
  subst hw9
  have hP : va_P G.1 CL (VTW G vh ph th svh hs9 ah bh lh rh fa9 rf9 de9 ++ PW G ph pd nr nc pL pG pB pk pa pt pm) _ := hP
  have hD : va_D A (VTW G vh ph th svh hs9 ah bh lh rh fa9 rf9 de9 ++ PW G ph pd nr nc pL pG pB pk pa pt pm) := hD
  subst hQ
  exact ret_i hx hb hr hlk () rfl hP hD hS (bI_nar _) dX1_isOut_7
set_option maxHeartbeats 4000000 in
set_option maxRecDepth 100000 in
theorem m_X1_home (l : Launch) (G : GG) (vh : Nat) (ph : Nat) (th : Nat) (svh : Nat) (hs9 : Bool) (ah : Nat) (bh : Nat) (lh : Nat) (rh : Nat) (fa9 : Int32) (rf9 : Int32) (de9 : Int32) (pd : Nat → Nat) (nr : Nat) (nc : Nat) (pL : Nat → Nat) (pG : Nat → Nat) (pB : Nat → Bool) (pk : Nat → Int32) (pa : Nat → Nat) (pt : Nat → Nat) (pm : Nat) (hd : 2 ≤ nr ∧ nr ≤ 3 ∧ 2 ≤ nc ∧ nc ≤ 3) (hL : ∀ i, pL i < 65536) (hG : ∀ i, pG i < 65536) : MM l G yX1_home cX1_home 1 (some .int) ⟨3, 0, 0, 64⟩ [.ref vh] (VTW G vh ph th svh hs9 ah bh lh rh fa9 rf9 de9 ++ PW G ph pd nr nc pL pG pB pk pa pt pm) (Qi_ G (fun (r : Int32) (_ : Unit) => r = nI (hm nr nc pL pG)) (fun (_ : Unit) => (VTW G vh ph th svh hs9 ah bh lh rh fa9 rf9 de9 ++ PW G ph pd nr nc pL pG pB pk pa pt pm))) := by
  refine MM.of (by decide) (Nat.le_of_ble_eq_true rfl) ?_
  intro p e s m args below meth cd A C hini hA hK hZ hP hD ls hl
  generalize hQ : MQ below ((Qi_ G (fun (r : Int32) (_ : Unit) => r = nI (hm nr nc pL pG)) (fun (_ : Unit) => (VTW G vh ph th svh hs9 ah bh lh rh fa9 rf9 de9 ++ PW G ph pd nr nc pL pG pB pk pa pt pm))) A) args s (⟨3, 0, 0, 64⟩ : Room).cells (⟨3, 0, 0, 64⟩ : Room).slots A = Q
  obtain ⟨hx, hb, hr, hts, hown, hlk, hml⟩ := C
  have hown : s.vm.findClass RX1 = some m.cls := hown
  have hS : va_S A s.heap s.heap [] := va_S.rf
  have hl : lv_has ls 1 [(0, .ref vh)] := hl
  refine lv_aload_n hx hb dX1_home_0 rfl (lv_at hl 0 rfl) ?_
  refine va_get (D := G.1) (ci := 0) (v := .ref ph) (C := RX1) (T := TX1) (N := 11) hx hb hts in_X1 hown hK hP 0 rfl rfl 0 (by decide) (hts _ q428) (fun _ h9 => h9) rfl dX1_home_1 ?_
  refine callVi (As := []) (rest := []) (wc := (PW G ph pd nr nc pL pG pB pk pa pt pm)) (wr := (VTW G vh ph th svh hs9 ah bh lh rh fa9 rf9 de9)) ⟨hx, hb, hml, hown, hts⟩ (m_X2_home l G ph pd nr nc pL pG pB pk pa pt pm (by first | assumption | omega) (by first | assumption | omega) (by first | assumption | omega)) (cwV 0 hts (lw_V q509 q510 q511 q89 q512) rfl rfl rfl (by decide +kernel) ⟨Nat.le_of_ble_eq_true rfl, Nat.le_of_ble_eq_true rfl⟩) hK hZ hA hP hD hS [1, 2, 3, 4, 5, 6] [0] rfl rfl (by decide) (by decide) (by decide) 0 1 rfl rfl rfl hl.1 (Nat.le_of_ble_eq_true rfl) ⟨Nat.le_of_ble_eq_true rfl, Nat.le_of_ble_eq_true rfl⟩ rfl dX1_home_4 (fun r9 u9 H locs hw9 hP hD hS => ?_)
  subst hw9
  have hP : va_P G.1 CL (VTW G vh ph th svh hs9 ah bh lh rh fa9 rf9 de9 ++ PW G ph pd nr nc pL pG pB pk pa pt pm) _ := hP
  have hD : va_D A (VTW G vh ph th svh hs9 ah bh lh rh fa9 rf9 de9 ++ PW G ph pd nr nc pL pG pB pk pa pt pm) := hD
  subst hQ
  exact ret_i hx hb hr hlk () rfl hP hD hS rfl dX1_home_7
set_option maxHeartbeats 4000000 in
set_option maxRecDepth 100000 in
theorem m_X1_isWell (l : Launch) (G : GG) (vh : Nat) (ph : Nat) (th : Nat) (svh : Nat) (hs9 : Bool) (ah : Nat) (bh : Nat) (lh : Nat) (rh : Nat) (fa9 : Int32) (rf9 : Int32) (de9 : Int32) (pd : Nat → Nat) (nr : Nat) (nc : Nat) (pL : Nat → Nat) (pG : Nat → Nat) (pB : Nat → Bool) (pk : Nat → Int32) (pa : Nat → Nat) (pt : Nat → Nat) (pm : Nat) (hd : 2 ≤ nr ∧ nr ≤ 3 ∧ 2 ≤ nc ∧ nc ≤ 3) (hL : ∀ i, pL i < 65536) (hG : ∀ i, pG i < 65536) (hA0 : ∀ i, pa i < 65536) (hT0 : ∀ i, pt i < 100) (hp1 : pry pL pG (nr * nc) 1 = true → ∀ q, q < nr * nc → hoN (nr * nc) pL pG q < nr * nc) (hp0 : pry pL pG (nr * nc) 0 = true → ∀ q, q < nr * nc → hoN (nr * nc) pL pG q < nr * nc) : MM l G yX1_isWell cX1_isWell 1 (some .boolean) ⟨10, 2, 18, 219⟩ [.ref vh] (VTW G vh ph th svh hs9 ah bh lh rh fa9 rf9 de9 ++ PW G ph pd nr nc pL pG pB pk pa pt pm) (Qi_ G (fun (r : Int32) (u : (Nat → Nat) × (Nat → Nat) × (Nat)) => (r = bI ((decide (awN (fun d => rch nr nc pB pG d pL) = 4) || !otN nr nc pL pG) && (!pry pL pG (nr * nc) 0 || (odN (hoN (nr * nc) pL pG) (nr * nc) == iv (hoN (nr * nc) pL pG) (nr * nc))))) ∧ ((∀ i, u.1 i < 65536) ∧ ∀ i, u.2.1 i < 100)) (fun (u : (Nat → Nat) × (Nat → Nat) × (Nat)) => (VTW G vh ph th svh hs9 ah bh lh rh fa9 rf9 de9 ++ PW G ph pd nr nc pL pG pB pk u.1 u.2.1 u.2.2))) := by
  refine MM.of (by decide) (Nat.le_of_ble_eq_true rfl) ?_
  intro p e s m args below meth cd A C hini hA hK hZ hP hD ls hl
  generalize hQ : MQ below ((Qi_ G (fun (r : Int32) (u : (Nat → Nat) × (Nat → Nat) × (Nat)) => (r = bI ((decide (awN (fun d => rch nr nc pB pG d pL) = 4) || !otN nr nc pL pG) && (!pry pL pG (nr * nc) 0 || (odN (hoN (nr * nc) pL pG) (nr * nc) == iv (hoN (nr * nc) pL pG) (nr * nc))))) ∧ ((∀ i, u.1 i < 65536) ∧ ∀ i, u.2.1 i < 100)) (fun (u : (Nat → Nat) × (Nat → Nat) × (Nat)) => (VTW G vh ph th svh hs9 ah bh lh rh fa9 rf9 de9 ++ PW G ph pd nr nc pL pG pB pk u.1 u.2.1 u.2.2))) A) args s (⟨10, 2, 18, 219⟩ : Room).cells (⟨10, 2, 18, 219⟩ : Room).slots A = Q
  obtain ⟨hx, hb, hr, hts, hown, hlk, hml⟩ := C
  have hown : s.vm.findClass RX1 = some m.cls := hown
  have hS : va_S A s.heap s.heap [] := va_S.rf
  have hl : lv_has ls 1 [(0, .ref vh)] := hl
  refine lv_aload_n hx hb dX1_isWell_0 rfl (lv_at hl 0 rfl) ?_
  refine va_get (D := G.1) (ci := 0) (v := .ref ph) (C := RX1) (T := TX1) (N := 11) hx hb hts in_X1 hown hK hP 0 rfl rfl 0 (by decide) (hts _ q428) (fun _ h9 => h9) rfl dX1_isWell_1 ?_
  refine callVi (As := []) (rest := []) (wc := (PW G ph pd nr nc pL pG pB pk pa pt pm)) (wr := (VTW G vh ph th svh hs9 ah bh lh rh fa9 rf9 de9)) ⟨hx, hb, hml, hown, hts⟩ (m_X2_isWell l G ph pd nr nc pL pG pB pk pa pt pm (by first | assumption | omega) (by first | assumption | omega) (by first | assumption | omega) (by first | assumption | omega) (by first | assumption | omega) (by first | assumption | omega) (by first | assumption | omega)) (cwV 0 hts (lw_V q1005 q1006 q1007 q89 q1008) rfl rfl rfl (by decide +kernel) ⟨Nat.le_of_ble_eq_true rfl, Nat.le_of_ble_eq_true rfl⟩) hK hZ hA hP hD hS [1, 2, 3, 4, 5, 6] [0] rfl rfl (by decide) (by decide) (by decide) 0 1 rfl rfl rfl hl.1 (Nat.le_of_ble_eq_true rfl) ⟨Nat.le_of_ble_eq_true rfl, Nat.le_of_ble_eq_true rfl⟩ rfl dX1_isWell_4 (fun r9 u9 H locs hw9 hP hD hS => ?_)
  refine W.widen (k := 2) (n := 18) (Nat.le_refl _) (Nat.le_refl _) ?_
  obtain ⟨a1_1, t1_1, n1_1⟩ := u9
  obtain ⟨hr9, hw4⟩ := hw9
  subst hr9
  have hw4 : (∀ i, a1_1 i < 65536) ∧ ∀ i, t1_1 i < 100 := hw4
  have hP : va_P G.1 CL (VTW G vh ph th svh hs9 ah bh lh rh fa9 rf9 de9 ++ PW G ph pd nr nc pL pG pB pk a1_1 t1_1 n1_1) _ := hP
  have hD : va_D A (VTW G vh ph th svh hs9 ah bh lh rh fa9 rf9 de9 ++ PW G ph pd nr nc pL pG pB pk a1_1 t1_1 n1_1) := hD
  subst hQ
  exact ret_i hx hb hr hlk (⟨a1_1, t1_1, n1_1⟩) ⟨rfl, hw4⟩ hP hD hS (bI_nar _) dX1_isWell_7
set_option maxHeartbeats 4000000 in
set_option maxRecDepth 100000 in
theorem m_X1_errorPosition (l : Launch) (G : GG) (vh : Nat) (ph : Nat) (th : Nat) (svh : Nat) (hs9 : Bool) (ah : Nat) (bh : Nat) (lh : Nat) (rh : Nat) (fa9 : Int32) (rf9 : Int32) (de9 : Int32)  : MM l G yX1_errorPosition cX1_errorPosition 1 (some .int) ⟨0, 0, 0, 0⟩ [.ref vh] (VTW G vh ph th svh hs9 ah bh lh rh fa9 rf9 de9) (Qi_ G (fun (r : Int32) (_ : Unit) => r = fa9) (fun (_ : Unit) => (VTW G vh ph th svh hs9 ah bh lh rh fa9 rf9 de9))) := by
  refine MM.of (by decide) (Nat.le_of_ble_eq_true rfl) ?_
  intro p e s m args below meth cd A C hini hA hK hZ hP hD ls hl
  generalize hQ : MQ below ((Qi_ G (fun (r : Int32) (_ : Unit) => r = fa9) (fun (_ : Unit) => (VTW G vh ph th svh hs9 ah bh lh rh fa9 rf9 de9))) A) args s (⟨0, 0, 0, 0⟩ : Room).cells (⟨0, 0, 0, 0⟩ : Room).slots A = Q
  obtain ⟨hx, hb, hr, hts, hown, hlk, hml⟩ := C
  have hown : s.vm.findClass RX1 = some m.cls := hown
  have hS : va_S A s.heap s.heap [] := va_S.rf
  have hl : lv_has ls 1 [(0, .ref vh)] := hl
  refine lv_aload_n hx hb dX1_errorPosition_0 rfl (lv_at hl 0 rfl) ?_
  refine va_get (D := G.1) (ci := 0) (v := .int fa9) (C := RX1) (T := TX1) (N := 11) hx hb hts in_X1 hown hK hP 0 rfl rfl 8 (by decide) (hts _ q436) (fun _ h9 => h9) rfl dX1_errorPosition_1 ?_
  subst hQ
  exact ret_i hx hb hr hlk () rfl hP hD hS rfl dX1_errorPosition_4
set_option maxHeartbeats 4000000 in
set_option maxRecDepth 100000 in
theorem m_X1_tryOn (l : Launch) (G : GG) (vh : Nat) (ph : Nat) (th : Nat) (svh : Nat) (hs9 : Bool) (ah : Nat) (bh : Nat) (lh : Nat) (rh : Nat) (fa9 : Int32) (rf9 : Int32) (de9 : Int32) (pd : Nat → Nat) (nr : Nat) (nc : Nat) (pL : Nat → Nat) (pG : Nat → Nat) (pB : Nat → Bool) (pk : Nat → Int32) (pa : Nat → Nat) (pt : Nat → Nat) (pm : Nat) (qd : Nat → Nat) (mr : Nat) (mc9 : Nat) (qL : Nat → Nat) (qG : Nat → Nat) (qB : Nat → Bool) (qk : Nat → Int32) (qa : Nat → Nat) (qt : Nat → Nat) (qn : Nat) (hL : ∀ i, pL i < 65536) (hG : ∀ i, pG i < 65536) : MM l G yX1_tryOn cX1_tryOn 1 (some (.object "VowelTorus$Puzzle")) ⟨2, 0, 0, 39⟩ [.ref vh] (VTW G vh ph th svh hs9 ah bh lh rh fa9 rf9 de9 ++ PW G ph pd nr nc pL pG pB pk pa pt pm ++ PW G th qd mr mc9 qL qG qB qk qa qt qn) (Qr_ G (fun (r : Nat) (_ : Unit) => r = th) (fun (r : Nat) (_ : Unit) => (VTW G vh ph th svh hs9 ah bh lh rh fa9 rf9 de9 ++ PW G ph pd nr nc pL pG pB pk pa pt pm ++ PW G th qd nr nc pL pG pB pk qa qt qn))) := by
  refine MM.of (by decide) (Nat.le_of_ble_eq_true rfl) ?_
  intro p e s m args below meth cd A C hini hA hK hZ hP hD ls hl
  generalize hQ : MQ below ((Qr_ G (fun (r : Nat) (_ : Unit) => r = th) (fun (r : Nat) (_ : Unit) => (VTW G vh ph th svh hs9 ah bh lh rh fa9 rf9 de9 ++ PW G ph pd nr nc pL pG pB pk pa pt pm ++ PW G th qd nr nc pL pG pB pk qa qt qn))) A) args s (⟨2, 0, 0, 39⟩ : Room).cells (⟨2, 0, 0, 39⟩ : Room).slots A = Q
  obtain ⟨hx, hb, hr, hts, hown, hlk, hml⟩ := C
  have hown : s.vm.findClass RX1 = some m.cls := hown
  have hS : va_S A s.heap s.heap [] := va_S.rf
  have hl : lv_has ls 1 [(0, .ref vh)] := hl
  refine lv_aload_n hx hb dX1_tryOn_0 rfl (lv_at hl 0 rfl) ?_
  refine va_get (D := G.1) (ci := 0) (v := .ref th) (C := RX1) (T := TX1) (N := 11) hx hb hts in_X1 hown hK hP 0 rfl rfl 1 (by decide) (hts _ q429) (fun _ h9 => h9) rfl dX1_tryOn_1 ?_
  refine lv_aload_n hx hb dX1_tryOn_4 rfl (lv_at hl 0 rfl) ?_
  refine va_get (D := G.1) (ci := 0) (v := .ref ph) (C := RX1) (T := TX1) (N := 11) hx hb hts in_X1 hown hK hP 0 rfl rfl 0 (by decide) (hts _ q428) (fun _ h9 => h9) rfl dX1_tryOn_5 ?_
  refine callVv (As := [.ref ph]) (rest := []) (wc := (PW G th qd mr mc9 qL qG qB qk qa qt qn ++ PW G ph pd nr nc pL pG pB pk pa pt pm)) (wr := (VTW G vh ph th svh hs9 ah bh lh rh fa9 rf9 de9)) ⟨hx, hb, hml, hown, hts⟩ (m_X2_take l G th qd mr mc9 qL qG qB qk qa qt qn ph pd nr nc pL pG pB pk pa pt pm hL hG) (cwV 1 hts (lw_V q1098 q1099 q1100 q89 q1101) rfl rfl rfl (by decide +kernel) ⟨Nat.le_of_ble_eq_true rfl, Nat.le_of_ble_eq_true rfl⟩) hK hZ hA hP hD hS [7, 8, 9, 10, 11, 12, 1, 2, 3, 4, 5, 6] [0] rfl rfl (by decide) (by decide) (by decide) 0 1 rfl rfl rfl hl.1 (Nat.le_of_ble_eq_true rfl) ⟨Nat.le_of_ble_eq_true rfl, Nat.le_of_ble_eq_true rfl⟩ rfl dX1_tryOn_8 (fun u9 H locs hw9 hP hD hS => ?_)
  obtain ⟨hP, hD⟩ := re_PD (w := (VTW G vh ph th svh hs9 ah bh lh rh fa9 rf9 de9 ++ PW G ph pd nr nc pL pG pB pk pa pt pm ++ PW G th qd nr nc pL pG pB pk qa qt qn)) hP hD [0, 7, 8, 9, 10, 11, 12, 1, 2, 3, 4, 5, 6] (by decide) rfl
  refine lv_aload_n hx hb dX1_tryOn_11 rfl (lv_at hl 0 rfl) ?_
  refine va_get (D := G.1) (ci := 0) (v := .ref th) (C := RX1) (T := TX1) (N := 11) hx hb hts in_X1 hown hK hP 0 rfl rfl 1 (by decide) (hts _ q429) (fun _ h9 => h9) rfl dX1_tryOn_12 ?_
  subst hQ
  exact ret_r hx hb hr (Or.inl ⟨_, rfl⟩) hlk () rfl hP hD hS dX1_tryOn_15
set_option maxHeartbeats 4000000 in
set_option maxRecDepth 100000 in
theorem m_X1_save (l : Launch) (G : GG) (vh : Nat) (ph : Nat) (th : Nat) (svh : Nat) (hs9 : Bool) (ah : Nat) (bh : Nat) (lh : Nat) (rh : Nat) (fa9 : Int32) (rf9 : Int32) (de9 : Int32) (pd : Nat → Nat) (nr : Nat) (nc : Nat) (pL : Nat → Nat) (pG : Nat → Nat) (pB : Nat → Bool) (pk : Nat → Int32) (pa : Nat → Nat) (pt : Nat → Nat) (pm : Nat) (qd : Nat → Nat) (mr : Nat) (mc9 : Nat) (qL : Nat → Nat) (qG : Nat → Nat) (qB : Nat → Bool) (qk : Nat → Int32) (qa : Nat → Nat) (qt : Nat → Nat) (qn : Nat) (hd : 2 ≤ nr ∧ nr ≤ 3 ∧ 2 ≤ nc ∧ nc ≤ 3) (hL : ∀ i, pL i < 65536) (hG : ∀ i, pG i < 65536) (hG : ∀ i, pG i < 65536) : MM l G yX1_save cX1_save 1 (some .int) ⟨3, 0, 0, 64⟩ [.ref vh] (VTW G vh ph th svh hs9 ah bh lh rh fa9 rf9 de9 ++ PW G ph pd nr nc pL pG pB pk pa pt pm ++ PW G svh qd mr mc9 qL qG qB qk qa qt qn) (Qi_ G (fun (r : Int32) (_ : Unit) => r = nI (hm nr nc pL pG)) (fun (_ : Unit) => (VTW G vh ph th svh true ah bh lh rh fa9 rf9 de9 ++ PW G ph pd nr nc pL pG pB pk pa pt pm ++ PW G svh qd nr nc pL pG pB pk qa qt qn))) := by
  refine MM.of (by decide) (Nat.le_of_ble_eq_true rfl) ?_
  intro p e s m args below meth cd A C hini hA hK hZ hP hD ls hl
  generalize hQ : MQ below ((Qi_ G (fun (r : Int32) (_ : Unit) => r = nI (hm nr nc pL pG)) (fun (_ : Unit) => (VTW G vh ph th svh true ah bh lh rh fa9 rf9 de9 ++ PW G ph pd nr nc pL pG pB pk pa pt pm ++ PW G svh qd nr nc pL pG pB pk qa qt qn))) A) args s (⟨3, 0, 0, 64⟩ : Room).cells (⟨3, 0, 0, 64⟩ : Room).slots A = Q
  obtain ⟨hx, hb, hr, hts, hown, hlk, hml⟩ := C
  have hown : s.vm.findClass RX1 = some m.cls := hown
  have hS : va_S A s.heap s.heap [] := va_S.rf
  have hl : lv_has ls 1 [(0, .ref vh)] := hl
  refine lv_aload_n hx hb dX1_save_0 rfl (lv_at hl 0 rfl) ?_
  refine va_get (D := G.1) (ci := 0) (v := .ref svh) (C := RX1) (T := TX1) (N := 11) hx hb hts in_X1 hown hK hP 0 rfl rfl 2 (by decide) (hts _ q430) (fun _ h9 => h9) rfl dX1_save_1 ?_
  refine lv_aload_n hx hb dX1_save_4 rfl (lv_at hl 0 rfl) ?_
  refine va_get (D := G.1) (ci := 0) (v := .ref ph) (C := RX1) (T := TX1) (N := 11) hx hb hts in_X1 hown hK hP 0 rfl rfl 0 (by decide) (hts _ q428) (fun _ h9 => h9) rfl dX1_save_5 ?_
  refine callVv (As := [.ref ph]) (rest := []) (wc := (PW G svh qd mr mc9 qL qG qB qk qa qt qn ++ PW G ph pd nr nc pL pG pB pk pa pt pm)) (wr := (VTW G vh ph th svh hs9 ah bh lh rh fa9 rf9 de9)) ⟨hx, hb, hml, hown, hts⟩ (m_X2_take l G svh qd mr mc9 qL qG qB qk qa qt qn ph pd nr nc pL pG pB pk pa pt pm hL hG) (cwV 1 hts (lw_V q1098 q1099 q1100 q89 q1101) rfl rfl rfl (by decide +kernel) ⟨Nat.le_of_ble_eq_true rfl, Nat.le_of_ble_eq_true rfl⟩) hK hZ hA hP hD hS [7, 8, 9, 10, 11, 12, 1, 2, 3, 4, 5, 6] [0] rfl rfl (by decide) (by decide) (by decide) 0 1 rfl rfl rfl hl.1 (Nat.le_of_ble_eq_true rfl) ⟨Nat.le_of_ble_eq_true rfl, Nat.le_of_ble_eq_true rfl⟩ rfl dX1_save_8 (fun u9 H locs hw9 hP hD hS => ?_)
  obtain ⟨hP, hD⟩ := re_PD (w := (VTW G vh ph th svh hs9 ah bh lh rh fa9 rf9 de9 ++ PW G ph pd nr nc pL pG pB pk pa pt pm ++ PW G svh qd nr nc pL pG pB pk qa qt qn)) hP hD [0, 7, 8, 9, 10, 11, 12, 1, 2, 3, 4, 5, 6] (by decide) rfl
  refine lv_aload_n hx hb dX1_save_11 rfl (lv_at hl 0 rfl) ?_
  refine lv_iconst (v := nI 1) hx hb dX1_save_12 (by decide) ?_
  refine va_put (D := G.1) (ci := 0) (v := .int (bI true)) (ty := .boolean) (C := RX1) (T := TX1) (N := 11) hx hb hts in_X1 tyX1 tyX1_ok nmX1 hown hK hP hD hS 0 rfl rfl 3 (by decide) (hts _ q431) (fun _ h9 => h9) rfl (by decide +kernel) (bI_nar _) rfl (Nat.le_of_ble_eq_true rfl) dX1_save_13 (fun H locs hP hD hS => ?_)
  have hP : va_P G.1 CL (VTW G vh ph th svh true ah bh lh rh fa9 rf9 de9 ++ PW G ph pd nr nc pL pG pB pk pa pt pm ++ PW G svh qd nr nc pL pG pB pk qa qt qn) _ := hP
  have hD : va_D A (VTW G vh ph th svh true ah bh lh rh fa9 rf9 de9 ++ PW G ph pd nr nc pL pG pB pk pa pt pm ++ PW G svh qd nr nc pL pG pB pk qa qt qn) := hD
  refine lv_aload_n hx hb dX1_save_16 rfl (lv_at hl 0 rfl) ?_
  refine va_get (D := G.1) (ci := 0) (v := .ref ph) (C := RX1) (T := TX1) (N := 11) hx hb hts in_X1 hown hK hP 0 rfl rfl 0 (by decide) (hts _ q428) (fun _ h9 => h9) rfl dX1_save_17 ?_
  refine callVi (As := []) (rest := []) (wc := (PW G ph pd nr nc pL pG pB pk pa pt pm)) (wr := (VTW G vh ph th svh true ah bh lh rh fa9 rf9 de9 ++ PW G svh qd nr nc pL pG pB pk qa qt qn)) ⟨hx, hb, hml, hown, hts⟩ (m_X2_home l G ph pd nr nc pL pG pB pk pa pt pm (by first | assumption | omega) (by first | assumption | omega) (by first | assumption | omega)) (cwV 0 hts (lw_V q509 q510 q511 q89 q512) rfl rfl rfl (by decide +kernel) ⟨Nat.le_of_ble_eq_true rfl, Nat.le_of_ble_eq_true rfl⟩) hK hZ hA hP hD hS [1, 2, 3, 4, 5, 6] [0, 7, 8, 9, 10, 11, 12] rfl rfl (by decide) (by decide) (by decide) 0 1 rfl rfl rfl hl.1 (Nat.le_of_ble_eq_true rfl) ⟨Nat.le_of_ble_eq_true rfl, Nat.le_of_ble_eq_true rfl⟩ rfl dX1_save_20 (fun r9 u9 H locs hw9 hP hD hS => ?_)
  subst hw9
  obtain ⟨hP, hD⟩ := re_PD (w := (VTW G vh ph th svh true ah bh lh rh fa9 rf9 de9 ++ PW G ph pd nr nc pL pG pB pk pa pt pm ++ PW G svh qd nr nc pL pG pB pk qa qt qn)) hP hD [0, 7, 8, 9, 10, 11, 12, 1, 2, 3, 4, 5, 6] (by decide) rfl
  subst hQ
  exact ret_i hx hb hr hlk () rfl hP hD hS rfl dX1_save_23
set_option maxHeartbeats 4000000 in
set_option maxRecDepth 100000 in
theorem m_X1_checkPlace (l : Launch) (G : GG) (vh : Nat) (ph : Nat) (th : Nat) (svh : Nat) (hs9 : Bool) (ah : Nat) (bh : Nat) (lh : Nat) (rh : Nat) (fa9 : Int32) (rf9 : Int32) (de9 : Int32) (pd : Nat → Nat) (nr : Nat) (nc : Nat) (pL : Nat → Nat) (pG : Nat → Nat) (pB : Nat → Bool) (pk : Nat → Int32) (pa : Nat → Nat) (pt : Nat → Nat) (pm : Nat) (px : Int32) (hd : 2 ≤ nr ∧ nr ≤ 3 ∧ 2 ≤ nc ∧ nc ≤ 3) (hst : l.stackTraces = false) : MX l G yX1_checkPlace cX1_checkPlace 2 none ⟨7, 1, 6, 101⟩ [.ref vh, .int px] (VTW G vh ph th svh hs9 ah bh lh rh fa9 rf9 de9 ++ PW G ph pd nr nc pL pG pB pk pa pt pm) (Qv_ G (fun (_ : Unit) => isIx px (nr * nc) = true) (fun (_ : Unit) => (VTW G vh ph th svh hs9 ah bh lh rh fa9 rf9 de9 ++ PW G ph pd nr nc pL pG pB pk pa pt pm))) (XQ G (fun (_ : Unit) => RJ13) (fun (_ : Unit) => isIx px (nr * nc) = false) (fun (q9 : Nat) (_ : Unit) => (VTW G vh ph th svh hs9 ah bh lh rh fa9 rf9 de9 ++ PW G ph pd nr nc pL pG pB pk pa pt pm))) := by
  refine MX.of (by decide) (Nat.le_of_ble_eq_true rfl) ?_
  intro p e s m args below meth cd A C hini hA hK hZ hP hD hnt ls hl
  generalize hQ : vx_MQ below ((Qv_ G (fun (_ : Unit) => isIx px (nr * nc) = true) (fun (_ : Unit) => (VTW G vh ph th svh hs9 ah bh lh rh fa9 rf9 de9 ++ PW G ph pd nr nc pL pG pB pk pa pt pm))) A) ((XQ G (fun (_ : Unit) => RJ13) (fun (_ : Unit) => isIx px (nr * nc) = false) (fun (q9 : Nat) (_ : Unit) => (VTW G vh ph th svh hs9 ah bh lh rh fa9 rf9 de9 ++ PW G ph pd nr nc pL pG pB pk pa pt pm))) A) args s (⟨7, 1, 6, 101⟩ : Room).cells (⟨7, 1, 6, 101⟩ : Room).slots A = Q
  obtain ⟨hx, hb, hr, hts, hown, hlk, hml⟩ := C
  have hown : s.vm.findClass RX1 = some m.cls := hown
  have hS : va_S A s.heap s.heap [] := va_S.rf
  have hl : lv_has ls 2 [(0, .ref vh), (1, .int px)] := hl
  refine lv_aload_n hx hb dX1_checkPlace_0 rfl (lv_at hl 0 rfl) ?_
  refine va_get (D := G.1) (ci := 0) (v := .ref ph) (C := RX1) (T := TX1) (N := 11) hx hb hts in_X1 hown hK hP 0 rfl rfl 0 (by decide) (hts _ q428) (fun _ h9 => h9) rfl dX1_checkPlace_1 ?_
  refine lv_iload_n hx hb dX1_checkPlace_4 rfl (lv_at hl 1 rfl) ?_
  refine callVi (As := [.int px]) (rest := []) (wc := (PW G ph pd nr nc pL pG pB pk pa pt pm)) (wr := (VTW G vh ph th svh hs9 ah bh lh rh fa9 rf9 de9)) ⟨hx, hb, hml, hown, hts⟩ (m_X2_isPlace l G ph pd nr nc pL pG pB pk pa pt pm px (by first | assumption | omega)) (cwV 1 hts (lw_V q1184 q1185 q1186 q89 q1187) rfl rfl rfl (by decide +kernel) ⟨Nat.le_of_ble_eq_true rfl, Nat.le_of_ble_eq_true rfl⟩) hK hZ hA hP hD hS [1, 2, 3, 4, 5, 6] [0] rfl rfl (by decide) (by decide) (by decide) 0 1 rfl rfl rfl hl.1 (Nat.le_of_ble_eq_true rfl) ⟨Nat.le_of_ble_eq_true rfl, Nat.le_of_ble_eq_true rfl⟩ rfl dX1_checkPlace_5 (fun r9 u9 H locs hw9 hP hD hS => ?_)
  subst hw9
  have hP : va_P G.1 CL (VTW G vh ph th svh hs9 ah bh lh rh fa9 rf9 de9 ++ PW G ph pd nr nc pL pG pB pk pa pt pm) _ := hP
  have hD : va_D A (VTW G vh ph th svh hs9 ah bh lh rh fa9 rf9 de9 ++ PW G ph pd nr nc pL pG pB pk pa pt pm) := hD
  refine callXSv (As := [.int (bI (isIx px (nr * nc)))]) (rest := []) (wc := ([] : va_W)) (wr := (VTW G vh ph th svh hs9 ah bh lh rh fa9 rf9 de9 ++ PW G ph pd nr nc pL pG pB pk pa pt pm)) ⟨hx, hb, hml, hown, hts⟩ (m_X1_checkIndex l G (isIx px (nr * nc)) (by first | assumption | omega)) (va_cwS 1 hts (lw_S q1189 q1190 q88 q1191) rfl rfl rfl (by decide +kernel) ⟨Nat.le_of_ble_eq_true rfl, Nat.le_of_ble_eq_true rfl⟩) hK hZ hA hP hD hS [] [0, 1, 2, 3, 4, 5, 6] rfl rfl (by decide) (by decide) (by decide) rfl hl.1 (Nat.le_of_ble_eq_true rfl) ⟨Nat.le_of_ble_eq_true rfl, Nat.le_of_ble_eq_true rfl⟩ rfl dX1_checkPlace_8 (fun ce9 q9 u9 H locs hw9 hP hD hS hce hcv hcl => ?_) (fun u9 H locs hw9 hP hD hS => ?_)
  · skip
    have hx8 : (isIx px (nr * nc)) = false := hw9
    have hP : va_P G.1 CL (VTW G vh ph th svh hs9 ah bh lh rh fa9 rf9 de9 ++ PW G ph pd nr nc pL pG pB pk pa pt pm) _ := hP
    have hD : va_D A (VTW G vh ph th svh hs9 ah bh lh rh fa9 rf9 de9 ++ PW G ph pd nr nc pL pG pB pk pa pt pm) := hD
    have hcl : s.vm.findClass RJ13 = some ce9.cls := hcl
    subst hQ
    refine vx_widen (k := 1) (n := 6) (Nat.le_of_ble_eq_true rfl) (Nat.le_of_ble_eq_true rfl) ?_
    exact out_x (by rw [hnt]; exact fun x9 hx9 => nomatch hx9) hlk () hx8 hP hD hS hce hcv hcl (Nat.le_refl _) (Nat.le_refl _)
  refine W.widen (k := 1) (n := 6) (Nat.le_refl _) (Nat.le_refl _) ?_
  have hw8 : (isIx px (nr * nc)) = true := hw9
  have hP : va_P G.1 CL (VTW G vh ph th svh hs9 ah bh lh rh fa9 rf9 de9 ++ PW G ph pd nr nc pL pG pB pk pa pt pm) _ := hP
  have hD : va_D A (VTW G vh ph th svh hs9 ah bh lh rh fa9 rf9 de9 ++ PW G ph pd nr nc pL pG pB pk pa pt pm) := hD
  subst hQ
  refine vx_ret ?_
  exact ret_v hx hb hr hlk () hw8 hP hD hS dX1_checkPlace_11
set_option maxHeartbeats 4000000 in
set_option maxRecDepth 100000 in
theorem m_X1_checkLine (l : Launch) (G : GG) (vh : Nat) (ph : Nat) (th : Nat) (svh : Nat) (hs9 : Bool) (ah : Nat) (bh : Nat) (lh : Nat) (rh : Nat) (fa9 : Int32) (rf9 : Int32) (de9 : Int32) (pd : Nat → Nat) (nr : Nat) (nc : Nat) (pL : Nat → Nat) (pG : Nat → Nat) (pB : Nat → Bool) (pk : Nat → Int32) (pa : Nat → Nat) (pt : Nat → Nat) (pm : Nat) (px : Int32) (hd : 2 ≤ nr ∧ nr ≤ 3 ∧ 2 ≤ nc ∧ nc ≤ 3) (hst : l.stackTraces = false) : MX l G yX1_checkLine cX1_checkLine 2 none ⟨7, 1, 6, 101⟩ [.ref vh, .int px] (VTW G vh ph th svh hs9 ah bh lh rh fa9 rf9 de9 ++ PW G ph pd nr nc pL pG pB pk pa pt pm) (Qv_ G (fun (_ : Unit) => isIx px (nr + nc) = true) (fun (_ : Unit) => (VTW G vh ph th svh hs9 ah bh lh rh fa9 rf9 de9 ++ PW G ph pd nr nc pL pG pB pk pa pt pm))) (XQ G (fun (_ : Unit) => RJ13) (fun (_ : Unit) => isIx px (nr + nc) = false) (fun (q9 : Nat) (_ : Unit) => (VTW G vh ph th svh hs9 ah bh lh rh fa9 rf9 de9 ++ PW G ph pd nr nc pL pG pB pk pa pt pm))) := by
  refine MX.of (by decide) (Nat.le_of_ble_eq_true rfl) ?_
  intro p e s m args below meth cd A C hini hA hK hZ hP hD hnt ls hl
  generalize hQ : vx_MQ below ((Qv_ G (fun (_ : Unit) => isIx px (nr + nc) = true) (fun (_ : Unit) => (VTW G vh ph th svh hs9 ah bh lh rh fa9 rf9 de9 ++ PW G ph pd nr nc pL pG pB pk pa pt pm))) A) ((XQ G (fun (_ : Unit) => RJ13) (fun (_ : Unit) => isIx px (nr + nc) = false) (fun (q9 : Nat) (_ : Unit) => (VTW G vh ph th svh hs9 ah bh lh rh fa9 rf9 de9 ++ PW G ph pd nr nc pL pG pB pk pa pt pm))) A) args s (⟨7, 1, 6, 101⟩ : Room).cells (⟨7, 1, 6, 101⟩ : Room).slots A = Q
  obtain ⟨hx, hb, hr, hts, hown, hlk, hml⟩ := C
  have hown : s.vm.findClass RX1 = some m.cls := hown
  have hS : va_S A s.heap s.heap [] := va_S.rf
  have hl : lv_has ls 2 [(0, .ref vh), (1, .int px)] := hl
  refine lv_aload_n hx hb dX1_checkLine_0 rfl (lv_at hl 0 rfl) ?_
  refine va_get (D := G.1) (ci := 0) (v := .ref ph) (C := RX1) (T := TX1) (N := 11) hx hb hts in_X1 hown hK hP 0 rfl rfl 0 (by decide) (hts _ q428) (fun _ h9 => h9) rfl dX1_checkLine_1 ?_
  refine lv_iload_n hx hb dX1_checkLine_4 rfl (lv_at hl 1 rfl) ?_
  refine callVi (As := [.int px]) (rest := []) (wc := (PW G ph pd nr nc pL pG pB pk pa pt pm)) (wr := (VTW G vh ph th svh hs9 ah bh lh rh fa9 rf9 de9)) ⟨hx, hb, hml, hown, hts⟩ (m_X2_isLine l G ph pd nr nc pL pG pB pk pa pt pm px (by first | assumption | omega)) (cwV 1 hts (lw_V q1310 q1311 q1312 q89 q1313) rfl rfl rfl (by decide +kernel) ⟨Nat.le_of_ble_eq_true rfl, Nat.le_of_ble_eq_true rfl⟩) hK hZ hA hP hD hS [1, 2, 3, 4, 5, 6] [0] rfl rfl (by decide) (by decide) (by decide) 0 1 rfl rfl rfl hl.1 (Nat.le_of_ble_eq_true rfl) ⟨Nat.le_of_ble_eq_true rfl, Nat.le_of_ble_eq_true rfl⟩ rfl dX1_checkLine_5 (fun r9 u9 H locs hw9 hP hD hS => ?_)
  subst hw9
  have hP : va_P G.1 CL (VTW G vh ph th svh hs9 ah bh lh rh fa9 rf9 de9 ++ PW G ph pd nr nc pL pG pB pk pa pt pm) _ := hP
  have hD : va_D A (VTW G vh ph th svh hs9 ah bh lh rh fa9 rf9 de9 ++ PW G ph pd nr nc pL pG pB pk pa pt pm) := hD
  refine callXSv (As := [.int (bI (isIx px (nr + nc)))]) (rest := []) (wc := ([] : va_W)) (wr := (VTW G vh ph th svh hs9 ah bh lh rh fa9 rf9 de9 ++ PW G ph pd nr nc pL pG pB pk pa pt pm)) ⟨hx, hb, hml, hown, hts⟩ (m_X1_checkIndex l G (isIx px (nr + nc)) (by first | assumption | omega)) (va_cwS 1 hts (lw_S q1189 q1190 q88 q1191) rfl rfl rfl (by decide +kernel) ⟨Nat.le_of_ble_eq_true rfl, Nat.le_of_ble_eq_true rfl⟩) hK hZ hA hP hD hS [] [0, 1, 2, 3, 4, 5, 6] rfl rfl (by decide) (by decide) (by decide) rfl hl.1 (Nat.le_of_ble_eq_true rfl) ⟨Nat.le_of_ble_eq_true rfl, Nat.le_of_ble_eq_true rfl⟩ rfl dX1_checkLine_8 (fun ce9 q9 u9 H locs hw9 hP hD hS hce hcv hcl => ?_) (fun u9 H locs hw9 hP hD hS => ?_)
  · skip
    have hx8 : (isIx px (nr + nc)) = false := hw9
    have hP : va_P G.1 CL (VTW G vh ph th svh hs9 ah bh lh rh fa9 rf9 de9 ++ PW G ph pd nr nc pL pG pB pk pa pt pm) _ := hP
    have hD : va_D A (VTW G vh ph th svh hs9 ah bh lh rh fa9 rf9 de9 ++ PW G ph pd nr nc pL pG pB pk pa pt pm) := hD
    have hcl : s.vm.findClass RJ13 = some ce9.cls := hcl
    subst hQ
    refine vx_widen (k := 1) (n := 6) (Nat.le_of_ble_eq_true rfl) (Nat.le_of_ble_eq_true rfl) ?_
    exact out_x (by rw [hnt]; exact fun x9 hx9 => nomatch hx9) hlk () hx8 hP hD hS hce hcv hcl (Nat.le_refl _) (Nat.le_refl _)
  refine W.widen (k := 1) (n := 6) (Nat.le_refl _) (Nat.le_refl _) ?_
  have hw8 : (isIx px (nr + nc)) = true := hw9
  have hP : va_P G.1 CL (VTW G vh ph th svh hs9 ah bh lh rh fa9 rf9 de9 ++ PW G ph pd nr nc pL pG pB pk pa pt pm) _ := hP
  have hD : va_D A (VTW G vh ph th svh hs9 ah bh lh rh fa9 rf9 de9 ++ PW G ph pd nr nc pL pG pB pk pa pt pm) := hD
  subst hQ
  refine vx_ret ?_
  exact ret_v hx hb hr hlk () hw8 hP hD hS dX1_checkLine_11
set_option maxHeartbeats 4000000 in
set_option maxRecDepth 100000 in
theorem m_X1_text (l : Launch) (G : GG) (vh : Nat) (ph : Nat) (th : Nat) (svh : Nat) (hs9 : Bool) (ah : Nat) (bh : Nat) (lh : Nat) (rh : Nat) (fa9 : Int32) (rf9 : Int32) (de9 : Int32) (pd : Nat → Nat) (nr : Nat) (nc : Nat) (pL : Nat → Nat) (pG : Nat → Nat) (pB : Nat → Bool) (pk : Nat → Int32) (pa : Nat → Nat) (pt : Nat → Nat) (pm : Nat) (lz : SBZ) (ls9 : List Nat) (hd : 2 ≤ nr ∧ nr ≤ 3 ∧ 2 ≤ nc ∧ nc ≤ 3) (hL : ∀ q, pL q < 65536) (hz : SBh lz ls9) : MM l G yX1_text cX1_text 1 (some .int) ⟨9, 36, 8820, 202⟩ [.ref vh] (VTW G vh ph th svh hs9 ah bh lh rh fa9 rf9 de9 ++ PW G ph pd nr nc pL pG pB pk pa pt pm ++ SBB G lh lz) (Qi_ G (fun (r : Int32) (u : (SBZ)) => (r = nI ((txN nc pL (nr * nc)).length)) ∧ (SBh u (txN nc pL (nr * nc)))) (fun (u : (SBZ)) => (VTW G vh ph th svh hs9 ah bh lh rh fa9 rf9 de9 ++ PW G ph pd nr nc pL pG pB pk pa pt pm ++ SBB G lh u))) := by
  refine MM.of (by decide) (Nat.le_of_ble_eq_true rfl) ?_
  intro p e s m args below meth cd A C hini hA hK hZ hP hD ls hl
  generalize hQ : MQ below ((Qi_ G (fun (r : Int32) (u : (SBZ)) => (r = nI ((txN nc pL (nr * nc)).length)) ∧ (SBh u (txN nc pL (nr * nc)))) (fun (u : (SBZ)) => (VTW G vh ph th svh hs9 ah bh lh rh fa9 rf9 de9 ++ PW G ph pd nr nc pL pG pB pk pa pt pm ++ SBB G lh u))) A) args s (⟨9, 36, 8820, 202⟩ : Room).cells (⟨9, 36, 8820, 202⟩ : Room).slots A = Q
  obtain ⟨hx, hb, hr, hts, hown, hlk, hml⟩ := C
  have hown : s.vm.findClass RX1 = some m.cls := hown
  have hS : va_S A s.heap s.heap [] := va_S.rf
  have hl : lv_has ls 1 [(0, .ref vh)] := hl
  refine lv_aload_n hx hb dX1_text_0 rfl (lv_at hl 0 rfl) ?_
  refine va_get (D := G.1) (ci := 0) (v := .ref lh) (C := RX1) (T := TX1) (N := 11) hx hb hts in_X1 hown hK hP 0 rfl rfl 6 (by decide) (hts _ q434) (fun _ h9 => h9) rfl dX1_text_1 ?_
  refine lv_iconst (v := nI 0) hx hb dX1_text_4 (by decide) ?_
  refine callVv (As := [.int (nI 0)]) (rest := []) (wc := (SBB G lh lz)) (wr := (VTW G vh ph th svh hs9 ah bh lh rh fa9 rf9 de9 ++ PW G ph pd nr nc pL pG pB pk pa pt pm)) ⟨hx, hb, hml, hown, hts⟩ (m_J3_setLength l G lh lz ls9 (by first | assumption | omega)) (cwV 1 hts (lw_V q681 q682 q683 q94 q684) rfl rfl rfl (by decide +kernel) ⟨Nat.le_of_ble_eq_true rfl, Nat.le_of_ble_eq_true rfl⟩) hK hZ hA hP hD hS [7, 8] [0, 1, 2, 3, 4, 5, 6] rfl rfl (by decide) (by decide) (by decide) 0 9 rfl rfl rfl hl.1 (Nat.le_of_ble_eq_true rfl) ⟨Nat.le_of_ble_eq_true rfl, Nat.le_of_ble_eq_true rfl⟩ rfl dX1_text_5 (fun u9 H locs hw9 hP hD hS => ?_)
  obtain ⟨z2_1, e9⟩ : ∃ z, z = u9 := ⟨_, rfl⟩
  subst e9
  have hw5 : SBh z2_1 [] := hw9
  have hP : va_P G.1 CL (VTW G vh ph th svh hs9 ah bh lh rh fa9 rf9 de9 ++ PW G ph pd nr nc pL pG pB pk pa pt pm ++ SBB G lh z2_1) _ := hP
  have hD : va_D A (VTW G vh ph th svh hs9 ah bh lh rh fa9 rf9 de9 ++ PW G ph pd nr nc pL pG pB pk pa pt pm ++ SBB G lh z2_1) := hD
  refine lv_aload_n hx hb dX1_text_8 rfl (lv_at hl 0 rfl) ?_
  refine va_get (D := G.1) (ci := 0) (v := .ref ph) (C := RX1) (T := TX1) (N := 11) hx hb hts in_X1 hown hK hP 0 rfl rfl 0 (by decide) (hts _ q428) (fun _ h9 => h9) rfl dX1_text_9 ?_
  refine lv_aload_n hx hb dX1_text_12 rfl (lv_at hl 0 rfl) ?_
  refine va_get (D := G.1) (ci := 0) (v := .ref lh) (C := RX1) (T := TX1) (N := 11) hx hb hts in_X1 hown hK hP 0 rfl rfl 6 (by decide) (hts _ q434) (fun _ h9 => h9) rfl dX1_text_13 ?_
  refine lv_aload_n hx hb dX1_text_16 rfl (lv_at hl 0 rfl) ?_
  refine va_get (D := G.1) (ci := 0) (v := .ref ph) (C := RX1) (T := TX1) (N := 11) hx hb hts in_X1 hown hK hP 0 rfl rfl 0 (by decide) (hts _ q428) (fun _ h9 => h9) rfl dX1_text_17 ?_
  refine va_getN (D := G.1) (ci := 1) (v := .ref (pd 0)) (C := RX2) (T := TX2) (N := 14) hx hb hts in_X2 hown hK hP 1 rfl rfl 2 (by decide) (va_Nw.use rfl (KS.nw hZ q146 rfl)) (fun _ h9 => h9) rfl dX1_text_20 ?_
  refine callVv (As := [.ref lh, .ref (pd 0)]) (rest := []) (wc := (PW G ph pd nr nc pL pG pB pk pa pt pm ++ SBB G lh z2_1)) (wr := (VTW G vh ph th svh hs9 ah bh lh rh fa9 rf9 de9)) ⟨hx, hb, hml, hown, hts⟩ (m_X2_writes__L l G ph pd nr nc pL pG pB pk pa pt pm lh z2_1 (by first | assumption | omega) (by first | assumption | omega) (by first | assumption | omega)) (cwV 2 hts (lw_V q966 q967 q968 q89 q969) rfl rfl rfl (by decide +kernel) ⟨Nat.le_of_ble_eq_true rfl, Nat.le_of_ble_eq_true rfl⟩) hK hZ hA hP hD hS [1, 2, 3, 4, 5, 6, 7, 8] [0] rfl rfl (by decide) (by decide) (by decide) 0 1 rfl rfl rfl hl.1 (Nat.le_of_ble_eq_true rfl) ⟨Nat.le_of_ble_eq_true rfl, Nat.le_of_ble_eq_true rfl⟩ rfl dX1_text_23 (fun u9 H locs hw9 hP hD hS => ?_)
  refine W.widen (k := 36) (n := 8820) (Nat.le_refl _) (Nat.le_refl _) ?_
  obtain ⟨z2_2, e9⟩ : ∃ z, z = u9 := ⟨_, rfl⟩
  subst e9
  have hw23 : SBh z2_2 (txN nc pL (nr * nc)) := hw9
  have hP : va_P G.1 CL (VTW G vh ph th svh hs9 ah bh lh rh fa9 rf9 de9 ++ PW G ph pd nr nc pL pG pB pk pa pt pm ++ SBB G lh z2_2) _ := hP
  have hD : va_D A (VTW G vh ph th svh hs9 ah bh lh rh fa9 rf9 de9 ++ PW G ph pd nr nc pL pG pB pk pa pt pm ++ SBB G lh z2_2) := hD
  refine lv_aload_n hx hb dX1_text_26 rfl (lv_at hl 0 rfl) ?_
  refine va_get (D := G.1) (ci := 0) (v := .ref lh) (C := RX1) (T := TX1) (N := 11) hx hb hts in_X1 hown hK hP 0 rfl rfl 6 (by decide) (hts _ q434) (fun _ h9 => h9) rfl dX1_text_27 ?_
  refine callVi (As := []) (rest := []) (wc := (SBB G lh z2_2)) (wr := (VTW G vh ph th svh hs9 ah bh lh rh fa9 rf9 de9 ++ PW G ph pd nr nc pL pG pB pk pa pt pm)) ⟨hx, hb, hml, hown, hts⟩ (m_J3_length l G lh z2_2 (txN nc pL (nr * nc)) hw23) (cwV 0 hts (lw_V q992 q857 q2190 q94 q858) rfl rfl rfl (by decide +kernel) ⟨Nat.le_of_ble_eq_true rfl, Nat.le_of_ble_eq_true rfl⟩) hK hZ hA hP hD hS [7, 8] [0, 1, 2, 3, 4, 5, 6] rfl rfl (by decide) (by decide) (by decide) 0 9 rfl rfl rfl hl.1 (Nat.le_of_ble_eq_true rfl) ⟨Nat.le_of_ble_eq_true rfl, Nat.le_of_ble_eq_true rfl⟩ rfl dX1_text_30 (fun r9 u9 H locs hw9 hP hD hS => ?_)
  subst hw9
  have hP : va_P G.1 CL (VTW G vh ph th svh hs9 ah bh lh rh fa9 rf9 de9 ++ PW G ph pd nr nc pL pG pB pk pa pt pm ++ SBB G lh z2_2) _ := hP
  have hD : va_D A (VTW G vh ph th svh hs9 ah bh lh rh fa9 rf9 de9 ++ PW G ph pd nr nc pL pG pB pk pa pt pm ++ SBB G lh z2_2) := hD
  subst hQ
  exact ret_i hx hb hr hlk z2_2 ⟨rfl, hw23⟩ hP hD hS rfl dX1_text_33
set_option maxHeartbeats 4000000 in
set_option maxRecDepth 100000 in
theorem m_X1_goalText (l : Launch) (G : GG) (vh : Nat) (ph : Nat) (th : Nat) (svh : Nat) (hs9 : Bool) (ah : Nat) (bh : Nat) (lh : Nat) (rh : Nat) (fa9 : Int32) (rf9 : Int32) (de9 : Int32) (pd : Nat → Nat) (nr : Nat) (nc : Nat) (pL : Nat → Nat) (pG : Nat → Nat) (pB : Nat → Bool) (pk : Nat → Int32) (pa : Nat → Nat) (pt : Nat → Nat) (pm : Nat) (lz : SBZ) (ls9 : List Nat) (hd : 2 ≤ nr ∧ nr ≤ 3 ∧ 2 ≤ nc ∧ nc ≤ 3) (hK9 : ∀ q, pG q < 65536) (hz : SBh lz ls9) : MM l G yX1_goalText cX1_goalText 1 (some .int) ⟨9, 36, 8820, 202⟩ [.ref vh] (VTW G vh ph th svh hs9 ah bh lh rh fa9 rf9 de9 ++ PW G ph pd nr nc pL pG pB pk pa pt pm ++ SBB G lh lz) (Qi_ G (fun (r : Int32) (u : (SBZ)) => (r = nI ((txN nc pG (nr * nc)).length)) ∧ (SBh u (txN nc pG (nr * nc)))) (fun (u : (SBZ)) => (VTW G vh ph th svh hs9 ah bh lh rh fa9 rf9 de9 ++ PW G ph pd nr nc pL pG pB pk pa pt pm ++ SBB G lh u))) := by
  refine MM.of (by decide) (Nat.le_of_ble_eq_true rfl) ?_
  intro p e s m args below meth cd A C hini hA hK hZ hP hD ls hl
  generalize hQ : MQ below ((Qi_ G (fun (r : Int32) (u : (SBZ)) => (r = nI ((txN nc pG (nr * nc)).length)) ∧ (SBh u (txN nc pG (nr * nc)))) (fun (u : (SBZ)) => (VTW G vh ph th svh hs9 ah bh lh rh fa9 rf9 de9 ++ PW G ph pd nr nc pL pG pB pk pa pt pm ++ SBB G lh u))) A) args s (⟨9, 36, 8820, 202⟩ : Room).cells (⟨9, 36, 8820, 202⟩ : Room).slots A = Q
  obtain ⟨hx, hb, hr, hts, hown, hlk, hml⟩ := C
  have hown : s.vm.findClass RX1 = some m.cls := hown
  have hS : va_S A s.heap s.heap [] := va_S.rf
  have hl : lv_has ls 1 [(0, .ref vh)] := hl
  refine lv_aload_n hx hb dX1_goalText_0 rfl (lv_at hl 0 rfl) ?_
  refine va_get (D := G.1) (ci := 0) (v := .ref lh) (C := RX1) (T := TX1) (N := 11) hx hb hts in_X1 hown hK hP 0 rfl rfl 6 (by decide) (hts _ q434) (fun _ h9 => h9) rfl dX1_goalText_1 ?_
  refine lv_iconst (v := nI 0) hx hb dX1_goalText_4 (by decide) ?_
  refine callVv (As := [.int (nI 0)]) (rest := []) (wc := (SBB G lh lz)) (wr := (VTW G vh ph th svh hs9 ah bh lh rh fa9 rf9 de9 ++ PW G ph pd nr nc pL pG pB pk pa pt pm)) ⟨hx, hb, hml, hown, hts⟩ (m_J3_setLength l G lh lz ls9 (by first | assumption | omega)) (cwV 1 hts (lw_V q681 q682 q683 q94 q684) rfl rfl rfl (by decide +kernel) ⟨Nat.le_of_ble_eq_true rfl, Nat.le_of_ble_eq_true rfl⟩) hK hZ hA hP hD hS [7, 8] [0, 1, 2, 3, 4, 5, 6] rfl rfl (by decide) (by decide) (by decide) 0 9 rfl rfl rfl hl.1 (Nat.le_of_ble_eq_true rfl) ⟨Nat.le_of_ble_eq_true rfl, Nat.le_of_ble_eq_true rfl⟩ rfl dX1_goalText_5 (fun u9 H locs hw9 hP hD hS => ?_)
  obtain ⟨z2_1, e9⟩ : ∃ z, z = u9 := ⟨_, rfl⟩
  subst e9
  have hw5 : SBh z2_1 [] := hw9
  have hP : va_P G.1 CL (VTW G vh ph th svh hs9 ah bh lh rh fa9 rf9 de9 ++ PW G ph pd nr nc pL pG pB pk pa pt pm ++ SBB G lh z2_1) _ := hP
  have hD : va_D A (VTW G vh ph th svh hs9 ah bh lh rh fa9 rf9 de9 ++ PW G ph pd nr nc pL pG pB pk pa pt pm ++ SBB G lh z2_1) := hD
  refine lv_aload_n hx hb dX1_goalText_8 rfl (lv_at hl 0 rfl) ?_
  refine va_get (D := G.1) (ci := 0) (v := .ref ph) (C := RX1) (T := TX1) (N := 11) hx hb hts in_X1 hown hK hP 0 rfl rfl 0 (by decide) (hts _ q428) (fun _ h9 => h9) rfl dX1_goalText_9 ?_
  refine lv_aload_n hx hb dX1_goalText_12 rfl (lv_at hl 0 rfl) ?_
  refine va_get (D := G.1) (ci := 0) (v := .ref lh) (C := RX1) (T := TX1) (N := 11) hx hb hts in_X1 hown hK hP 0 rfl rfl 6 (by decide) (hts _ q434) (fun _ h9 => h9) rfl dX1_goalText_13 ?_
  refine lv_aload_n hx hb dX1_goalText_16 rfl (lv_at hl 0 rfl) ?_
  refine va_get (D := G.1) (ci := 0) (v := .ref ph) (C := RX1) (T := TX1) (N := 11) hx hb hts in_X1 hown hK hP 0 rfl rfl 0 (by decide) (hts _ q428) (fun _ h9 => h9) rfl dX1_goalText_17 ?_
  refine va_getN (D := G.1) (ci := 1) (v := .ref (pd 1)) (C := RX2) (T := TX2) (N := 14) hx hb hts in_X2 hown hK hP 1 rfl rfl 3 (by decide) (va_Nw.use rfl (KS.nw hZ q148 rfl)) (fun _ h9 => h9) rfl dX1_goalText_20 ?_
  refine callVv (As := [.ref lh, .ref (pd 1)]) (rest := []) (wc := (PW G ph pd nr nc pL pG pB pk pa pt pm ++ SBB G lh z2_1)) (wr := (VTW G vh ph th svh hs9 ah bh lh rh fa9 rf9 de9)) ⟨hx, hb, hml, hown, hts⟩ (m_X2_writes__K l G ph pd nr nc pL pG pB pk pa pt pm lh z2_1 (by first | assumption | omega) (by first | assumption | omega) (by first | assumption | omega)) (cwV 2 hts (lw_V q966 q967 q968 q89 q969) rfl rfl rfl (by decide +kernel) ⟨Nat.le_of_ble_eq_true rfl, Nat.le_of_ble_eq_true rfl⟩) hK hZ hA hP hD hS [1, 2, 3, 4, 5, 6, 7, 8] [0] rfl rfl (by decide) (by decide) (by decide) 0 1 rfl rfl rfl hl.1 (Nat.le_of_ble_eq_true rfl) ⟨Nat.le_of_ble_eq_true rfl, Nat.le_of_ble_eq_true rfl⟩ rfl dX1_goalText_23 (fun u9 H locs hw9 hP hD hS => ?_)
  refine W.widen (k := 36) (n := 8820) (Nat.le_refl _) (Nat.le_refl _) ?_
  obtain ⟨z2_2, e9⟩ : ∃ z, z = u9 := ⟨_, rfl⟩
  subst e9
  have hw23 : SBh z2_2 (txN nc pG (nr * nc)) := hw9
  have hP : va_P G.1 CL (VTW G vh ph th svh hs9 ah bh lh rh fa9 rf9 de9 ++ PW G ph pd nr nc pL pG pB pk pa pt pm ++ SBB G lh z2_2) _ := hP
  have hD : va_D A (VTW G vh ph th svh hs9 ah bh lh rh fa9 rf9 de9 ++ PW G ph pd nr nc pL pG pB pk pa pt pm ++ SBB G lh z2_2) := hD
  refine lv_aload_n hx hb dX1_goalText_26 rfl (lv_at hl 0 rfl) ?_
  refine va_get (D := G.1) (ci := 0) (v := .ref lh) (C := RX1) (T := TX1) (N := 11) hx hb hts in_X1 hown hK hP 0 rfl rfl 6 (by decide) (hts _ q434) (fun _ h9 => h9) rfl dX1_goalText_27 ?_
  refine callVi (As := []) (rest := []) (wc := (SBB G lh z2_2)) (wr := (VTW G vh ph th svh hs9 ah bh lh rh fa9 rf9 de9 ++ PW G ph pd nr nc pL pG pB pk pa pt pm)) ⟨hx, hb, hml, hown, hts⟩ (m_J3_length l G lh z2_2 (txN nc pG (nr * nc)) hw23) (cwV 0 hts (lw_V q992 q857 q2190 q94 q858) rfl rfl rfl (by decide +kernel) ⟨Nat.le_of_ble_eq_true rfl, Nat.le_of_ble_eq_true rfl⟩) hK hZ hA hP hD hS [7, 8] [0, 1, 2, 3, 4, 5, 6] rfl rfl (by decide) (by decide) (by decide) 0 9 rfl rfl rfl hl.1 (Nat.le_of_ble_eq_true rfl) ⟨Nat.le_of_ble_eq_true rfl, Nat.le_of_ble_eq_true rfl⟩ rfl dX1_goalText_30 (fun r9 u9 H locs hw9 hP hD hS => ?_)
  subst hw9
  have hP : va_P G.1 CL (VTW G vh ph th svh hs9 ah bh lh rh fa9 rf9 de9 ++ PW G ph pd nr nc pL pG pB pk pa pt pm ++ SBB G lh z2_2) _ := hP
  have hD : va_D A (VTW G vh ph th svh hs9 ah bh lh rh fa9 rf9 de9 ++ PW G ph pd nr nc pL pG pB pk pa pt pm ++ SBB G lh z2_2) := hD
  subst hQ
  exact ret_i hx hb hr hlk z2_2 ⟨rfl, hw23⟩ hP hD hS rfl dX1_goalText_33
