/-- the boards that the past keeps -/
abbrev psz (us : List PS) : List ZT := us.map PSz
theorem psz_snoc (us : List PS) (u : PS) : psz (us ++ [u]) = psz us ++ [PSz u] := by simp [psz]
set_option maxHeartbeats 4000000 in
set_option maxRecDepth 100000 in
theorem m_X3_keeps (l : Launch) (G : GG) (ph : Nat) (pd : Nat → Nat) (nr : Nat) (nc : Nat) (pL : Nat → Nat) (pG : Nat → Nat) (pB : Nat → Bool) (pk : Nat → Int32) (pa : Nat → Nat) (pt : Nat → Nat) (pm : Nat) (ah : Nat) (pz : PZA) (ks : List PS) (ss : List PS) (hL : ∀ i, pL i < 65536) (hG : ∀ i, pG i < 65536) (hz : PAh pz ks ss) (h8 : ks.length + ss.length = 8) : MM l G yX3_keeps cX3_keeps 3 none ⟨3, 0, 0, 60⟩ [.ref ah, .ref ph] (PW G ph pd nr nc pL pG pB pk pa pt pm ++ PAW G ah pz ks ss) (Qv_ G (fun (u : (PZA) × (List PS) × (List PS)) => PAh u.1 u.2.1 u.2.2 ∧ u.2.1.length + u.2.2.length = 8 ∧ psz u.2.1 = pushH (psz ks) (nr, nc, pL, pG, pB, pk)) (fun (u : (PZA) × (List PS) × (List PS)) => (PW G ph pd nr nc pL pG pB pk pa pt pm ++ PAW G ah u.1 u.2.1 u.2.2))) := by
  cases ss with
  | nil =>
    cases ks with
    | nil => exact absurd h8 (by decide)
    | cons uu ks =>
      have h9 : ks.length = 7 := by simp at h8; omega
      refine (m_X3_keeps__k l G ph pd nr nc pL pG pB pk pa pt pm ah pz ks uu hL hG hz (by omega)).mono (fun A a s o t h => ?_)
      obtain ⟨⟨u, e, ⟨hp1, hp2, hp3⟩, hB⟩, hF⟩ := h
      refine ⟨⟨u, e, ⟨hp1, by rw [hp2, hp3]; simp [h9], ?_⟩, hB⟩, hF⟩
      rw [hp2, psz_snoc]
      unfold pushH
      rw [if_pos (by simp [psz, h9])]
      rfl
  | cons uu ss =>
    have h9 : ks.length + ss.length = 7 := by simp at h8; omega
    refine (m_X3_keeps__s l G ph pd nr nc pL pG pB pk pa pt pm ah pz ks ss uu hL hG hz (by omega)).mono (fun A a s o t h => ?_)
    obtain ⟨⟨u, e, ⟨hp1, hp2, hp3⟩, hB⟩, hF⟩ := h
    refine ⟨⟨u, e, ⟨hp1, by rw [hp2, hp3]; simp; omega, ?_⟩, hB⟩, hF⟩
    rw [hp2, psz_snoc]
    unfold pushH
    rw [if_neg (by simp [psz]; omega)]
set_option maxHeartbeats 4000000 in
set_option maxRecDepth 100000 in
theorem m_X1_becomes_2 (l : Launch) (G : GG) (vh : Nat) (ph : Nat) (th : Nat) (svh : Nat) (hs9 : Bool) (ah : Nat) (bh : Nat) (lh : Nat) (rh : Nat) (fa9 : Int32) (rf9 : Int32) (de9 : Int32) (pd : Nat → Nat) (nr : Nat) (nc : Nat) (pL : Nat → Nat) (pG : Nat → Nat) (pB : Nat → Bool) (pk : Nat → Int32) (pa : Nat → Nat) (pt : Nat → Nat) (pm : Nat) (qd : Nat → Nat) (mr : Nat) (mc9 : Nat) (qL : Nat → Nat) (qG : Nat → Nat) (qB : Nat → Bool) (qk : Nat → Int32) (qa : Nat → Nat) (qt : Nat → Nat) (qn : Nat) (pz : PZA) (ks : List PS) (ss : List PS) (hL : ∀ i, pL i < 65536) (hG : ∀ i, pG i < 65536) (hqL : ∀ i, qL i < 65536) (hqG : ∀ i, qG i < 65536) (hz : PAh pz ks ss) (h8 : ks.length + ss.length = 8) : MM l G yX1_becomes_2 cX1_becomes_2 1 none ⟨4, 0, 0, 82⟩ [.ref vh] (VTW G vh ph th svh hs9 ah bh lh rh fa9 rf9 de9 ++ PW G ph pd nr nc pL pG pB pk pa pt pm ++ PW G th qd mr mc9 qL qG qB qk qa qt qn ++ PAW G ah pz ks ss) (Qv_ G (fun (u : (PZA) × (List PS) × (List PS)) => PAh u.1 u.2.1 u.2.2 ∧ u.2.1.length + u.2.2.length = 8 ∧ psz u.2.1 = pushH (psz ks) (nr, nc, pL, pG, pB, pk)) (fun (u : (PZA) × (List PS) × (List PS)) => (VTW G vh ph th svh hs9 ah bh lh rh fa9 rf9 de9 ++ PW G ph pd mr mc9 qL qG qB qk pa pt pm ++ PW G th qd mr mc9 qL qG qB qk qa qt qn ++ PAW G ah u.1 u.2.1 u.2.2))) := by
  refine MM.of (by decide) (Nat.le_of_ble_eq_true rfl) ?_
  intro p e s m args below meth cd A C hini hA hK hZ hP hD ls hl
  generalize hQ : MQ below ((Qv_ G (fun (u : (PZA) × (List PS) × (List PS)) => PAh u.1 u.2.1 u.2.2 ∧ u.2.1.length + u.2.2.length = 8 ∧ psz u.2.1 = pushH (psz ks) (nr, nc, pL, pG, pB, pk)) (fun (u : (PZA) × (List PS) × (List PS)) => (VTW G vh ph th svh hs9 ah bh lh rh fa9 rf9 de9 ++ PW G ph pd mr mc9 qL qG qB qk pa pt pm ++ PW G th qd mr mc9 qL qG qB qk qa qt qn ++ PAW G ah u.1 u.2.1 u.2.2))) A) args s (⟨4, 0, 0, 82⟩ : Room).cells (⟨4, 0, 0, 82⟩ : Room).slots A = Q
  obtain ⟨hx, hb, hr, hts, hown, hlk, hml⟩ := C
  have hown : s.vm.findClass RX1 = some m.cls := hown
  have hS : va_S A s.heap s.heap [] := va_S.rf
  have hl : lv_has ls 1 [(0, .ref vh)] := hl
  refine lv_aload_n hx hb dX1_becomes_2_0 rfl (lv_at hl 0 rfl) ?_
  refine va_get (D := G.1) (ci := 0) (v := .ref ah) (C := RX1) (T := TX1) (N := 11) hx hb hts in_X1 hown hK hP 0 rfl rfl 4 (by decide) (hts _ q432) (fun _ h9 => h9) rfl dX1_becomes_2_1 ?_
  refine lv_aload_n hx hb dX1_becomes_2_4 rfl (lv_at hl 0 rfl) ?_
  refine va_get (D := G.1) (ci := 0) (v := .ref ph) (C := RX1) (T := TX1) (N := 11) hx hb hts in_X1 hown hK hP 0 rfl rfl 0 (by decide) (hts _ q428) (fun _ h9 => h9) rfl dX1_becomes_2_5 ?_
  have hP : va_P G.1 CL (cat [VTW G vh ph th svh hs9 ah bh lh rh fa9 rf9 de9, PW G ph pd nr nc pL pG pB pk pa pt pm, PW G th qd mr mc9 qL qG qB qk qa qt qn, PAW G ah pz ks ss]) _ := hP
  have hD : va_D A (cat [VTW G vh ph th svh hs9 ah bh lh rh fa9 rf9 de9, PW G ph pd nr nc pL pG pB pk pa pt pm, PW G th qd mr mc9 qL qG qB qk qa qt qn, PAW G ah pz ks ss]) := hD
  obtain ⟨hP, hD⟩ := cut_B (bs' := [PW G ph pd nr nc pL pG pB pk pa pt pm, PAW G ah pz ks ss, VTW G vh ph th svh hs9 ah bh lh rh fa9 rf9 de9, PW G th qd mr mc9 qL qG qB qk qa qt qn]) hP hD [1, 3, 0, 2] (by decide) rfl
  have hP : va_P G.1 CL ((PW G ph pd nr nc pL pG pB pk pa pt pm ++ PAW G ah pz ks ss) ++ (VTW G vh ph th svh hs9 ah bh lh rh fa9 rf9 de9 ++ PW G th qd mr mc9 qL qG qB qk qa qt qn)) _ := hP
  have hD : va_D A ((PW G ph pd nr nc pL pG pB pk pa pt pm ++ PAW G ah pz ks ss) ++ (VTW G vh ph th svh hs9 ah bh lh rh fa9 rf9 de9 ++ PW G th qd mr mc9 qL qG qB qk qa qt qn)) := hD
  refine callVv (As := [.ref ph]) (rest := []) (wc := (PW G ph pd nr nc pL pG pB pk pa pt pm ++ PAW G ah pz ks ss)) (wr := (VTW G vh ph th svh hs9 ah bh lh rh fa9 rf9 de9 ++ PW G th qd mr mc9 qL qG qB qk qa qt qn)) ⟨hx, hb, hml, hown, hts⟩ (m_X3_keeps l G ph pd nr nc pL pG pB pk pa pt pm ah pz ks ss (by first | assumption | omega) (by first | assumption | omega) (by first | assumption | omega) (by first | assumption | omega)) (cwV 1 hts (lw_V q1140 q1141 q1142 q90 q1143) rfl rfl rfl (by decide +kernel) ⟨Nat.le_of_ble_eq_true rfl, Nat.le_of_ble_eq_true rfl⟩) hK hZ hA hP hD hS (ixC (PW G ph pd nr nc pL pG pB pk pa pt pm ++ PAW G ah pz ks ss)) (ixR (PW G ph pd nr nc pL pG pB pk pa pt pm ++ PAW G ah pz ks ss) (VTW G vh ph th svh hs9 ah bh lh rh fa9 rf9 de9 ++ PW G th qd mr mc9 qL qG qB qk qa qt qn)) ixC_ok ixR_ok ixC_nd ixR_nd ix_dis 6 2 rfl rfl rfl hl.1 (Nat.le_of_ble_eq_true rfl) ⟨Nat.le_of_ble_eq_true rfl, Nat.le_of_ble_eq_true rfl⟩ rfl dX1_becomes_2_8 (fun u9 H locs hw9 hP hD hS => ?_)
  obtain ⟨pz2_1, ks2_1, ss2_1⟩ := u9
  have hw8 : PAh pz2_1 ks2_1 ss2_1 ∧ ks2_1.length + ss2_1.length = 8 ∧ psz ks2_1 = pushH (psz ks) (nr, nc, pL, pG, pB, pk) := hw9
  have hP : va_P G.1 CL (cat [VTW G vh ph th svh hs9 ah bh lh rh fa9 rf9 de9, PW G th qd mr mc9 qL qG qB qk qa qt qn, PW G ph pd nr nc pL pG pB pk pa pt pm, PAW G ah pz2_1 ks2_1 ss2_1]) _ := hP
  have hD : va_D A (cat [VTW G vh ph th svh hs9 ah bh lh rh fa9 rf9 de9, PW G th qd mr mc9 qL qG qB qk qa qt qn, PW G ph pd nr nc pL pG pB pk pa pt pm, PAW G ah pz2_1 ks2_1 ss2_1]) := hD
  obtain ⟨hP, hD⟩ := cut_B (bs' := [VTW G vh ph th svh hs9 ah bh lh rh fa9 rf9 de9, PW G ph pd nr nc pL pG pB pk pa pt pm, PW G th qd mr mc9 qL qG qB qk qa qt qn, PAW G ah pz2_1 ks2_1 ss2_1]) hP hD [0, 2, 1, 3] (by decide) rfl
  have hP : va_P G.1 CL (VTW G vh ph th svh hs9 ah bh lh rh fa9 rf9 de9 ++ PW G ph pd nr nc pL pG pB pk pa pt pm ++ PW G th qd mr mc9 qL qG qB qk qa qt qn ++ PAW G ah pz2_1 ks2_1 ss2_1) _ := hP
  have hD : va_D A (VTW G vh ph th svh hs9 ah bh lh rh fa9 rf9 de9 ++ PW G ph pd nr nc pL pG pB pk pa pt pm ++ PW G th qd mr mc9 qL qG qB qk qa qt qn ++ PAW G ah pz2_1 ks2_1 ss2_1) := hD
  refine lv_aload_n hx hb dX1_becomes_2_11 rfl (lv_at hl 0 rfl) ?_
  refine va_get (D := G.1) (ci := 0) (v := .ref ph) (C := RX1) (T := TX1) (N := 11) hx hb hts in_X1 hown hK hP 0 rfl rfl 0 (by decide) (hts _ q428) (fun _ h9 => h9) rfl dX1_becomes_2_12 ?_
  refine lv_aload_n hx hb dX1_becomes_2_15 rfl (lv_at hl 0 rfl) ?_
  refine va_get (D := G.1) (ci := 0) (v := .ref th) (C := RX1) (T := TX1) (N := 11) hx hb hts in_X1 hown hK hP 0 rfl rfl 1 (by decide) (hts _ q429) (fun _ h9 => h9) rfl dX1_becomes_2_16 ?_
  have hP : va_P G.1 CL (cat [VTW G vh ph th svh hs9 ah bh lh rh fa9 rf9 de9, PW G ph pd nr nc pL pG pB pk pa pt pm, PW G th qd mr mc9 qL qG qB qk qa qt qn, PAW G ah pz2_1 ks2_1 ss2_1]) _ := hP
  have hD : va_D A (cat [VTW G vh ph th svh hs9 ah bh lh rh fa9 rf9 de9, PW G ph pd nr nc pL pG pB pk pa pt pm, PW G th qd mr mc9 qL qG qB qk qa qt qn, PAW G ah pz2_1 ks2_1 ss2_1]) := hD
  obtain ⟨hP, hD⟩ := cut_B (bs' := [PW G ph pd nr nc pL pG pB pk pa pt pm, PW G th qd mr mc9 qL qG qB qk qa qt qn, VTW G vh ph th svh hs9 ah bh lh rh fa9 rf9 de9, PAW G ah pz2_1 ks2_1 ss2_1]) hP hD [1, 2, 0, 3] (by decide) rfl
  have hP : va_P G.1 CL ((PW G ph pd nr nc pL pG pB pk pa pt pm ++ PW G th qd mr mc9 qL qG qB qk qa qt qn) ++ (VTW G vh ph th svh hs9 ah bh lh rh fa9 rf9 de9 ++ PAW G ah pz2_1 ks2_1 ss2_1)) _ := hP
  have hD : va_D A ((PW G ph pd nr nc pL pG pB pk pa pt pm ++ PW G th qd mr mc9 qL qG qB qk qa qt qn) ++ (VTW G vh ph th svh hs9 ah bh lh rh fa9 rf9 de9 ++ PAW G ah pz2_1 ks2_1 ss2_1)) := hD
  refine callVv (As := [.ref th]) (rest := []) (wc := (PW G ph pd nr nc pL pG pB pk pa pt pm ++ PW G th qd mr mc9 qL qG qB qk qa qt qn)) (wr := (VTW G vh ph th svh hs9 ah bh lh rh fa9 rf9 de9 ++ PAW G ah pz2_1 ks2_1 ss2_1)) ⟨hx, hb, hml, hown, hts⟩ (m_X2_take l G ph pd nr nc pL pG pB pk pa pt pm th qd mr mc9 qL qG qB qk qa qt qn hqL hqG) (cwV 1 hts (lw_V q1098 q1099 q1100 q89 q1101) rfl rfl rfl (by decide +kernel) ⟨Nat.le_of_ble_eq_true rfl, Nat.le_of_ble_eq_true rfl⟩) hK hZ hA hP hD hS (ixC (PW G ph pd nr nc pL pG pB pk pa pt pm ++ PW G th qd mr mc9 qL qG qB qk qa qt qn)) (ixR (PW G ph pd nr nc pL pG pB pk pa pt pm ++ PW G th qd mr mc9 qL qG qB qk qa qt qn) (VTW G vh ph th svh hs9 ah bh lh rh fa9 rf9 de9 ++ PAW G ah pz2_1 ks2_1 ss2_1)) ixC_ok ixR_ok ixC_nd ixR_nd ix_dis 0 1 rfl rfl rfl hl.1 (Nat.le_of_ble_eq_true rfl) ⟨Nat.le_of_ble_eq_true rfl, Nat.le_of_ble_eq_true rfl⟩ rfl dX1_becomes_2_19 (fun u9 H locs hw9 hP hD hS => ?_)
  have hP : va_P G.1 CL (cat [VTW G vh ph th svh hs9 ah bh lh rh fa9 rf9 de9, PAW G ah pz2_1 ks2_1 ss2_1, PW G ph pd mr mc9 qL qG qB qk pa pt pm, PW G th qd mr mc9 qL qG qB qk qa qt qn]) _ := hP
  have hD : va_D A (cat [VTW G vh ph th svh hs9 ah bh lh rh fa9 rf9 de9, PAW G ah pz2_1 ks2_1 ss2_1, PW G ph pd mr mc9 qL qG qB qk pa pt pm, PW G th qd mr mc9 qL qG qB qk qa qt qn]) := hD
  obtain ⟨hP, hD⟩ := cut_B (bs' := [VTW G vh ph th svh hs9 ah bh lh rh fa9 rf9 de9, PW G ph pd mr mc9 qL qG qB qk pa pt pm, PW G th qd mr mc9 qL qG qB qk qa qt qn, PAW G ah pz2_1 ks2_1 ss2_1]) hP hD [0, 2, 3, 1] (by decide) rfl
  have hP : va_P G.1 CL (VTW G vh ph th svh hs9 ah bh lh rh fa9 rf9 de9 ++ PW G ph pd mr mc9 qL qG qB qk pa pt pm ++ PW G th qd mr mc9 qL qG qB qk qa qt qn ++ PAW G ah pz2_1 ks2_1 ss2_1) _ := hP
  have hD : va_D A (VTW G vh ph th svh hs9 ah bh lh rh fa9 rf9 de9 ++ PW G ph pd mr mc9 qL qG qB qk pa pt pm ++ PW G th qd mr mc9 qL qG qB qk qa qt qn ++ PAW G ah pz2_1 ks2_1 ss2_1) := hD
  subst hQ
  exact ret_v hx hb hr hlk (⟨pz2_1, ks2_1, ss2_1⟩) hw8 hP hD hS dX1_becomes_2_22
set_option maxHeartbeats 4000000 in
set_option maxRecDepth 100000 in
theorem m_X1_becomes (l : Launch) (G : GG) (vh : Nat) (ph : Nat) (th : Nat) (svh : Nat) (hs9 : Bool) (ah : Nat) (bh : Nat) (lh : Nat) (rh : Nat) (fa9 : Int32) (rf9 : Int32) (de9 : Int32) (pd : Nat → Nat) (nr : Nat) (nc : Nat) (pL : Nat → Nat) (pG : Nat → Nat) (pB : Nat → Bool) (pk : Nat → Int32) (pa : Nat → Nat) (pt : Nat → Nat) (pm : Nat) (qd : Nat → Nat) (mr : Nat) (mc9 : Nat) (qL : Nat → Nat) (qG : Nat → Nat) (qB : Nat → Bool) (qk : Nat → Int32) (qa : Nat → Nat) (qt : Nat → Nat) (qn : Nat) (pz : PZA) (ks : List PS) (ss : List PS) (rv : Int32) (hL : ∀ i, pL i < 65536) (hG : ∀ i, pG i < 65536) (hqL : ∀ i, qL i < 65536) (hqG : ∀ i, qG i < 65536) (hz : PAh pz ks ss) (h8 : ks.length + ss.length = 8) : MM l G yX1_becomes cX1_becomes 2 (some .int) ⟨5, 0, 0, 102⟩ [.ref vh, .int rv] (VTW G vh ph th svh hs9 ah bh lh rh fa9 rf9 de9 ++ PW G ph pd nr nc pL pG pB pk pa pt pm ++ PW G th qd mr mc9 qL qG qB qk qa qt qn ++ PAW G ah pz ks ss) (Qi_ G (fun (r : Int32) (u : (PZA) × (List PS) × (List PS)) => (r = rv) ∧ (PAh u.1 u.2.1 u.2.2 ∧ u.2.1.length + u.2.2.length = 8 ∧ psz u.2.1 = pushH (psz ks) (nr, nc, pL, pG, pB, pk))) (fun (u : (PZA) × (List PS) × (List PS)) => (VTW G vh ph th svh hs9 ah bh lh rh fa9 rf9 de9 ++ PW G ph pd mr mc9 qL qG qB qk pa pt pm ++ PW G th qd mr mc9 qL qG qB qk qa qt qn ++ PAW G ah u.1 u.2.1 u.2.2))) := by
  refine MM.of (by decide) (Nat.le_of_ble_eq_true rfl) ?_
  intro p e s m args below meth cd A C hini hA hK hZ hP hD ls hl
  generalize hQ : MQ below ((Qi_ G (fun (r : Int32) (u : (PZA) × (List PS) × (List PS)) => (r = rv) ∧ (PAh u.1 u.2.1 u.2.2 ∧ u.2.1.length + u.2.2.length = 8 ∧ psz u.2.1 = pushH (psz ks) (nr, nc, pL, pG, pB, pk))) (fun (u : (PZA) × (List PS) × (List PS)) => (VTW G vh ph th svh hs9 ah bh lh rh fa9 rf9 de9 ++ PW G ph pd mr mc9 qL qG qB qk pa pt pm ++ PW G th qd mr mc9 qL qG qB qk qa qt qn ++ PAW G ah u.1 u.2.1 u.2.2))) A) args s (⟨5, 0, 0, 102⟩ : Room).cells (⟨5, 0, 0, 102⟩ : Room).slots A = Q
  obtain ⟨hx, hb, hr, hts, hown, hlk, hml⟩ := C
  have hown : s.vm.findClass RX1 = some m.cls := hown
  have hS : va_S A s.heap s.heap [] := va_S.rf
  have hl : lv_has ls 2 [(0, .ref vh), (1, .int rv)] := hl
  refine lv_aload_n hx hb dX1_becomes_0 rfl (lv_at hl 0 rfl) ?_
  have hP : va_P G.1 CL (cat [VTW G vh ph th svh hs9 ah bh lh rh fa9 rf9 de9, PW G ph pd nr nc pL pG pB pk pa pt pm, PW G th qd mr mc9 qL qG qB qk qa qt qn, PAW G ah pz ks ss]) _ := hP
  have hD : va_D A (cat [VTW G vh ph th svh hs9 ah bh lh rh fa9 rf9 de9, PW G ph pd nr nc pL pG pB pk pa pt pm, PW G th qd mr mc9 qL qG qB qk qa qt qn, PAW G ah pz ks ss]) := hD
  obtain ⟨hP, hD⟩ := cut_B (bs' := [VTW G vh ph th svh hs9 ah bh lh rh fa9 rf9 de9, PW G ph pd nr nc pL pG pB pk pa pt pm, PW G th qd mr mc9 qL qG qB qk qa qt qn, PAW G ah pz ks ss]) hP hD [0, 1, 2, 3] (by decide) rfl
  have hP : va_P G.1 CL (VTW G vh ph th svh hs9 ah bh lh rh fa9 rf9 de9 ++ PW G ph pd nr nc pL pG pB pk pa pt pm ++ PW G th qd mr mc9 qL qG qB qk qa qt qn ++ PAW G ah pz ks ss) _ := hP
  have hD : va_D A (VTW G vh ph th svh hs9 ah bh lh rh fa9 rf9 de9 ++ PW G ph pd nr nc pL pG pB pk pa pt pm ++ PW G th qd mr mc9 qL qG qB qk qa qt qn ++ PAW G ah pz ks ss) := hD
  rw [← List.append_nil (VTW G vh ph th svh hs9 ah bh lh rh fa9 rf9 de9 ++ PW G ph pd nr nc pL pG pB pk pa pt pm ++ PW G th qd mr mc9 qL qG qB qk qa qt qn ++ PAW G ah pz ks ss)] at hP hD
  refine callVv (As := []) (rest := []) (wc := (VTW G vh ph th svh hs9 ah bh lh rh fa9 rf9 de9 ++ PW G ph pd nr nc pL pG pB pk pa pt pm ++ PW G th qd mr mc9 qL qG qB qk qa qt qn ++ PAW G ah pz ks ss)) (wr := ([] : va_W)) ⟨hx, hb, hml, hown, hts⟩ (m_X1_becomes_2 l G vh ph th svh hs9 ah bh lh rh fa9 rf9 de9 pd nr nc pL pG pB pk pa pt pm qd mr mc9 qL qG qB qk qa qt qn pz ks ss (by first | assumption | omega) (by first | assumption | omega) (by first | assumption | omega) (by first | assumption | omega) (by first | assumption | omega) (by first | assumption | omega)) (cwV 0 hts (lw_V q1136 q1138 qs18 q88 q1139) rfl rfl rfl (by decide +kernel) ⟨Nat.le_of_ble_eq_true rfl, Nat.le_of_ble_eq_true rfl⟩) hK hZ hA hP hD hS (ixC (VTW G vh ph th svh hs9 ah bh lh rh fa9 rf9 de9 ++ PW G ph pd nr nc pL pG pB pk pa pt pm ++ PW G th qd mr mc9 qL qG qB qk qa qt qn ++ PAW G ah pz ks ss)) (ixR (VTW G vh ph th svh hs9 ah bh lh rh fa9 rf9 de9 ++ PW G ph pd nr nc pL pG pB pk pa pt pm ++ PW G th qd mr mc9 qL qG qB qk qa qt qn ++ PAW G ah pz ks ss) ([] : va_W)) ixC_ok ixR_ok ixC_nd ixR_nd ix_dis 0 0 rfl rfl rfl hl.1 (Nat.le_of_ble_eq_true rfl) ⟨Nat.le_of_ble_eq_true rfl, Nat.le_of_ble_eq_true rfl⟩ rfl dX1_becomes_1 (fun u9 H locs hw9 hP hD hS => ?_)
  obtain ⟨pz2_1, ks2_1, ss2_1⟩ := u9
  have hw1 : PAh pz2_1 ks2_1 ss2_1 ∧ ks2_1.length + ss2_1.length = 8 ∧ psz ks2_1 = pushH (psz ks) (nr, nc, pL, pG, pB, pk) := hw9
  have hP : va_P G.1 CL (cat [VTW G vh ph th svh hs9 ah bh lh rh fa9 rf9 de9, PW G ph pd mr mc9 qL qG qB qk pa pt pm, PW G th qd mr mc9 qL qG qB qk qa qt qn, PAW G ah pz2_1 ks2_1 ss2_1]) _ := hP
  have hD : va_D A (cat [VTW G vh ph th svh hs9 ah bh lh rh fa9 rf9 de9, PW G ph pd mr mc9 qL qG qB qk pa pt pm, PW G th qd mr mc9 qL qG qB qk qa qt qn, PAW G ah pz2_1 ks2_1 ss2_1]) := hD
  obtain ⟨hP, hD⟩ := cut_B (bs' := [VTW G vh ph th svh hs9 ah bh lh rh fa9 rf9 de9, PW G ph pd mr mc9 qL qG qB qk pa pt pm, PW G th qd mr mc9 qL qG qB qk qa qt qn, PAW G ah pz2_1 ks2_1 ss2_1]) hP hD [0, 1, 2, 3] (by decide) rfl
  have hP : va_P G.1 CL (VTW G vh ph th svh hs9 ah bh lh rh fa9 rf9 de9 ++ PW G ph pd mr mc9 qL qG qB qk pa pt pm ++ PW G th qd mr mc9 qL qG qB qk qa qt qn ++ PAW G ah pz2_1 ks2_1 ss2_1) _ := hP
  have hD : va_D A (VTW G vh ph th svh hs9 ah bh lh rh fa9 rf9 de9 ++ PW G ph pd mr mc9 qL qG qB qk pa pt pm ++ PW G th qd mr mc9 qL qG qB qk qa qt qn ++ PAW G ah pz2_1 ks2_1 ss2_1) := hD
  refine lv_iload_n hx hb dX1_becomes_4 rfl (lv_at hl 1 rfl) ?_
  subst hQ
  exact ret_i hx hb hr hlk (⟨pz2_1, ks2_1, ss2_1⟩) ⟨rfl, hw1⟩ hP hD hS rfl dX1_becomes_5
