theorem PAW_0 {G : GG} {h : Nat} {pz : PZA} {ks ss : List PS} : PAW G h pz ks ss = cat [POW G h pz.1 pz.2.2.1, DQB G pz.1 pz.2.1, DQB G pz.2.2.1 pz.2.2.2, PZs G ks, PZs G ss] := rfl
set_option maxHeartbeats 4000000 in
set_option maxRecDepth 100000 in
theorem m_X3_size (l : Launch) (G : GG) (ah : Nat) (pz : PZA) (ks : List PS) (ss : List PS) (hz : PAh pz ks ss) : MM l G yX3_size cX3_size 1 (some .int) ⟨2, 0, 0, 42⟩ [.ref ah] (PAW G ah pz ks ss) (Qi_ G (fun (r : Int32) (_ : Unit) => r = nI ks.length) (fun (_ : Unit) => (PAW G ah pz ks ss))) := by
  refine MM.of (by decide) (Nat.le_of_ble_eq_true rfl) ?_
  intro p e s m args below meth cd A C hini hA hK hZ hP hD ls hl
  generalize hQ : MQ below ((Qi_ G (fun (r : Int32) (_ : Unit) => r = nI ks.length) (fun (_ : Unit) => (PAW G ah pz ks ss))) A) args s (⟨2, 0, 0, 42⟩ : Room).cells (⟨2, 0, 0, 42⟩ : Room).slots A = Q
  obtain ⟨hx, hb, hr, hts, hown, hlk, hml⟩ := C
  have hown : s.vm.findClass RX3 = some m.cls := hown
  have hS : va_S A s.heap s.heap [] := va_S.rf
  have hl : lv_has ls 1 [(0, .ref ah)] := hl
  rw [PAW_0] at hP hD
  have hP : va_P G.1 CL (POW G ah pz.1 pz.2.2.1 ++ DQB G pz.1 pz.2.1 ++ DQB G pz.2.2.1 pz.2.2.2 ++ PZs G ks ++ PZs G ss) _ := hP
  have hD : va_D A (POW G ah pz.1 pz.2.2.1 ++ DQB G pz.1 pz.2.1 ++ DQB G pz.2.2.1 pz.2.2.2 ++ PZs G ks ++ PZs G ss) := hD
  refine lv_aload_n hx hb dX3_size_0 rfl (lv_at hl 0 rfl) ?_
  refine va_get (D := G.1) (ci := 2) (v := .ref pz.1) (C := RX3) (T := TX3) (N := 2) hx hb hts in_X3 hown hK hP 0 rfl rfl 0 (by decide) (hts _ q227) (fun _ h9 => h9) rfl dX3_size_1 ?_
  have hP : va_P G.1 CL (cat [POW G ah pz.1 pz.2.2.1, DQB G pz.1 pz.2.1, DQB G pz.2.2.1 pz.2.2.2, PZs G ks, PZs G ss]) _ := hP
  have hD : va_D A (cat [POW G ah pz.1 pz.2.2.1, DQB G pz.1 pz.2.1, DQB G pz.2.2.1 pz.2.2.2, PZs G ks, PZs G ss]) := hD
  obtain ⟨hP, hD⟩ := cut_B (bs' := [DQB G pz.1 pz.2.1, POW G ah pz.1 pz.2.2.1, DQB G pz.2.2.1 pz.2.2.2, PZs G ks, PZs G ss]) hP hD [1, 0, 2, 3, 4] (by decide) rfl
  have hP : va_P G.1 CL ((DQB G pz.1 pz.2.1) ++ (POW G ah pz.1 pz.2.2.1 ++ DQB G pz.2.2.1 pz.2.2.2 ++ PZs G ks ++ PZs G ss)) _ := hP
  have hD : va_D A ((DQB G pz.1 pz.2.1) ++ (POW G ah pz.1 pz.2.2.1 ++ DQB G pz.2.2.1 pz.2.2.2 ++ PZs G ks ++ PZs G ss)) := hD
  refine callVi (As := []) (rest := []) (wc := (DQB G pz.1 pz.2.1)) (wr := (POW G ah pz.1 pz.2.2.1 ++ DQB G pz.2.2.1 pz.2.2.2 ++ PZs G ks ++ PZs G ss)) ⟨hx, hb, hml, hown, hts⟩ (m_J1_size l G pz.1 pz.2.1 (adr ks) hz.1) (cwV 0 hts (lw_V q1648 q610 q611 q92 q612) rfl rfl rfl (by decide +kernel) ⟨Nat.le_of_ble_eq_true rfl, Nat.le_of_ble_eq_true rfl⟩) hK hZ hA hP hD hS (ixC (DQB G pz.1 pz.2.1)) (ixR (DQB G pz.1 pz.2.1) (POW G ah pz.1 pz.2.2.1 ++ DQB G pz.2.2.1 pz.2.2.2 ++ PZs G ks ++ PZs G ss)) ixC_ok ixR_ok ixC_nd ixR_nd ix_dis 0 8 rfl rfl rfl hl.1 (Nat.le_of_ble_eq_true rfl) ⟨Nat.le_of_ble_eq_true rfl, Nat.le_of_ble_eq_true rfl⟩ rfl dX3_size_4 (fun r9 u9 H locs hw9 hP hD hS => ?_)
  subst hw9
  have hP : va_P G.1 CL (cat [POW G ah pz.1 pz.2.2.1, DQB G pz.2.2.1 pz.2.2.2, PZs G ks, PZs G ss, DQB G pz.1 pz.2.1]) _ := (by simpa only [cat, List.append_assoc] using hP)
  have hD : va_D A (cat [POW G ah pz.1 pz.2.2.1, DQB G pz.2.2.1 pz.2.2.2, PZs G ks, PZs G ss, DQB G pz.1 pz.2.1]) := (by simpa only [cat, List.append_assoc] using hD)
  obtain ⟨hP, hD⟩ := cut_B (bs' := [POW G ah pz.1 pz.2.2.1, DQB G pz.1 pz.2.1, DQB G pz.2.2.1 pz.2.2.2, PZs G ks, PZs G ss]) hP hD [0, 4, 1, 2, 3] (by decide) rfl
  have hP : va_P G.1 CL (POW G ah pz.1 pz.2.2.1 ++ DQB G pz.1 pz.2.1 ++ DQB G pz.2.2.1 pz.2.2.2 ++ PZs G ks ++ PZs G ss) _ := hP
  have hD : va_D A (POW G ah pz.1 pz.2.2.1 ++ DQB G pz.1 pz.2.1 ++ DQB G pz.2.2.1 pz.2.2.2 ++ PZs G ks ++ PZs G ss) := hD
  have hP : va_P G.1 CL (PAW G ah (pz.1, pz.2.1, pz.2.2.1, pz.2.2.2) ks ss) _ := hP
  have hD : va_D A (PAW G ah (pz.1, pz.2.1, pz.2.2.1, pz.2.2.2) ks ss) := hD
  have e_pz : (pz.1, pz.2.1, pz.2.2.1, pz.2.2.2) = pz := rfl
  rw [e_pz] at hP hD
  subst hQ
  exact ret_i hx hb hr hlk () (by simp) hP hD hS rfl dX3_size_7
set_option maxHeartbeats 4000000 in
set_option maxRecDepth 100000 in
theorem m_X3_forgets (l : Launch) (G : GG) (ah : Nat) (pz : PZA) (ks : List PS) (ss : List PS) (hz : PAh pz ks ss) (hn : ks.length + ss.length ≤ 16) : MM l G yX3_forgets cX3_forgets 1 none ⟨2, 0, 0, 44⟩ [.ref ah] (PAW G ah pz ks ss) (Qv_ G (fun (u : (PZA) × (List PS) × (List PS)) => PAh u.1 u.2.1 u.2.2 ∧ u.2.1 = [] ∧ u.2.2.length = ks.length + ss.length) (fun (u : (PZA) × (List PS) × (List PS)) => (PAW G ah u.1 u.2.1 u.2.2))) := by
  refine MM.of (by decide) (Nat.le_of_ble_eq_true rfl) ?_
  intro p e s m args below meth cd A C hini hA hK hZ hP hD ls hl
  generalize hQ : MQ below ((Qv_ G (fun (u : (PZA) × (List PS) × (List PS)) => PAh u.1 u.2.1 u.2.2 ∧ u.2.1 = [] ∧ u.2.2.length = ks.length + ss.length) (fun (u : (PZA) × (List PS) × (List PS)) => (PAW G ah u.1 u.2.1 u.2.2))) A) args s (⟨2, 0, 0, 44⟩ : Room).cells (⟨2, 0, 0, 44⟩ : Room).slots A = Q
  obtain ⟨hx, hb, hr, hts, hown, hlk, hml⟩ := C
  have hown : s.vm.findClass RX3 = some m.cls := hown
  have hS : va_S A s.heap s.heap [] := va_S.rf
  have hl : lv_has ls 1 [(0, .ref ah)] := hl
  have lp0 : ∀ (f : Nat) (z9 : PZA) (k9 : List PS) (s9 : List PS), k9.length < f → (PAh z9 k9 s9) → (k9.length + s9.length = ks.length + ss.length) → ∀ (H : Heap) (locs : List Loc) (ls : Array Slot), va_P G.1 CL (PAW G ah z9 k9 s9) H → va_D A (PAW G ah z9 k9 s9) → va_S A s.heap H locs → lv_has ls 1 [(0, .ref ah)] → W p l e (⟨2, 0, 0, 44⟩ : Room) s m args below meth cd H locs 0 0 Q (F0 m 0 ls []) := by
    intro f
    induction f with
    | zero => intro z9 k9 s9 hf; exact absurd hf (Nat.not_lt_zero _)
    | succ f ih0 =>
      intro z9 k9 s9 hf hz9 hn9 H locs ls hP hD hS hl
      rw [PAW_0] at hP hD
      have hP : va_P G.1 CL (POW G ah z9.1 z9.2.2.1 ++ DQB G z9.1 z9.2.1 ++ DQB G z9.2.2.1 z9.2.2.2 ++ PZs G k9 ++ PZs G s9) _ := hP
      have hD : va_D A (POW G ah z9.1 z9.2.2.1 ++ DQB G z9.1 z9.2.1 ++ DQB G z9.2.2.1 z9.2.2.2 ++ PZs G k9 ++ PZs G s9) := hD
      refine lv_aload_n hx hb dX3_forgets_0 rfl (lv_at hl 0 rfl) ?_
      refine va_get (D := G.1) (ci := 2) (v := .ref z9.1) (C := RX3) (T := TX3) (N := 2) hx hb hts in_X3 hown hK hP 0 rfl rfl 0 (by decide) (hts _ q227) (fun _ h9 => h9) rfl dX3_forgets_1 ?_
      have hP : va_P G.1 CL (cat [POW G ah z9.1 z9.2.2.1, DQB G z9.1 z9.2.1, DQB G z9.2.2.1 z9.2.2.2, PZs G k9, PZs G s9]) _ := hP
      have hD : va_D A (cat [POW G ah z9.1 z9.2.2.1, DQB G z9.1 z9.2.1, DQB G z9.2.2.1 z9.2.2.2, PZs G k9, PZs G s9]) := hD
      obtain ⟨hP, hD⟩ := cut_B (bs' := [DQB G z9.1 z9.2.1, POW G ah z9.1 z9.2.2.1, DQB G z9.2.2.1 z9.2.2.2, PZs G k9, PZs G s9]) hP hD [1, 0, 2, 3, 4] (by decide) rfl
      have hP : va_P G.1 CL ((DQB G z9.1 z9.2.1) ++ (POW G ah z9.1 z9.2.2.1 ++ DQB G z9.2.2.1 z9.2.2.2 ++ PZs G k9 ++ PZs G s9)) _ := hP
      have hD : va_D A ((DQB G z9.1 z9.2.1) ++ (POW G ah z9.1 z9.2.2.1 ++ DQB G z9.2.2.1 z9.2.2.2 ++ PZs G k9 ++ PZs G s9)) := hD
      refine callVi (As := []) (rest := []) (wc := (DQB G z9.1 z9.2.1)) (wr := (POW G ah z9.1 z9.2.2.1 ++ DQB G z9.2.2.1 z9.2.2.2 ++ PZs G k9 ++ PZs G s9)) ⟨hx, hb, hml, hown, hts⟩ (m_J1_isEmpty l G z9.1 z9.2.1 (adr k9) hz9.1) (cwV 0 hts (lw_V q1144 q1145 q1146 q92 q1147) rfl rfl rfl (by decide +kernel) ⟨Nat.le_of_ble_eq_true rfl, Nat.le_of_ble_eq_true rfl⟩) hK hZ hA hP hD hS (ixC (DQB G z9.1 z9.2.1)) (ixR (DQB G z9.1 z9.2.1) (POW G ah z9.1 z9.2.2.1 ++ DQB G z9.2.2.1 z9.2.2.2 ++ PZs G k9 ++ PZs G s9)) ixC_ok ixR_ok ixC_nd ixR_nd ix_dis 0 8 rfl rfl rfl hl.1 (Nat.le_of_ble_eq_true rfl) ⟨Nat.le_of_ble_eq_true rfl, Nat.le_of_ble_eq_true rfl⟩ rfl dX3_forgets_4 (fun r9 u9 H locs hw9 hP hD hS => ?_)
      subst hw9
      have hP : va_P G.1 CL (cat [POW G ah z9.1 z9.2.2.1, DQB G z9.2.2.1 z9.2.2.2, PZs G k9, PZs G s9, DQB G z9.1 z9.2.1]) _ := (by simpa only [cat, List.append_assoc] using hP)
      have hD : va_D A (cat [POW G ah z9.1 z9.2.2.1, DQB G z9.2.2.1 z9.2.2.2, PZs G k9, PZs G s9, DQB G z9.1 z9.2.1]) := (by simpa only [cat, List.append_assoc] using hD)
      obtain ⟨hP, hD⟩ := cut_B (bs' := [POW G ah z9.1 z9.2.2.1, DQB G z9.1 z9.2.1, DQB G z9.2.2.1 z9.2.2.2, PZs G k9, PZs G s9]) hP hD [0, 4, 1, 2, 3] (by decide) rfl
      have hP : va_P G.1 CL (POW G ah z9.1 z9.2.2.1 ++ DQB G z9.1 z9.2.1 ++ DQB G z9.2.2.1 z9.2.2.2 ++ PZs G k9 ++ PZs G s9) _ := hP
      have hD : va_D A (POW G ah z9.1 z9.2.2.1 ++ DQB G z9.1 z9.2.1 ++ DQB G z9.2.2.1 z9.2.2.2 ++ PZs G k9 ++ PZs G s9) := hD
      refine b_if_ne (tgt := 30) hx hb dX3_forgets_7 (by decide) (fun c7 => ?_) (fun c7 => ?_)
      · skip
        have hP : va_P G.1 CL (PAW G ah (z9.1, z9.2.1, z9.2.2.1, z9.2.2.2) k9 s9) _ := hP
        have hD : va_D A (PAW G ah (z9.1, z9.2.1, z9.2.2.1, z9.2.2.2) k9 s9) := hD
        subst hQ
        exact ret_v hx hb hr hlk (⟨(z9.1, z9.2.1, z9.2.2.1, z9.2.2.2), k9, s9⟩) ⟨hz9, (by cases k9 with | nil => rfl | cons a b => exact absurd c7 (fun h => Bool.noConfusion h)), (by cases k9 with | nil => simpa using hn9 | cons a b => exact absurd c7 (fun h => Bool.noConfusion h))⟩ hP hD hS dX3_forgets_30
      · skip
        obtain ⟨k8, uu, rfl⟩ : ∃ k8 uu, k9 = k8 ++ [uu] := (by rcases List.eq_nil_or_concat k9 with h | ⟨a, b, h⟩ <;> first | exact ⟨a, b, h⟩ | exact ⟨a, b, by simpa using h⟩ | (subst h; exact absurd c7 (by decide)))
        rw [PZs_snoc] at hP hD
        have hP : va_P G.1 CL (cat [POW G ah z9.1 z9.2.2.1, DQB G z9.1 z9.2.1, DQB G z9.2.2.1 z9.2.2.2, PZs G k8, PWp G uu, PZs G s9]) _ := (by simpa only [cat, List.append_assoc] using hP)
        have hD : va_D A (cat [POW G ah z9.1 z9.2.2.1, DQB G z9.1 z9.2.1, DQB G z9.2.2.1 z9.2.2.2, PZs G k8, PWp G uu, PZs G s9]) := (by simpa only [cat, List.append_assoc] using hD)
        obtain ⟨hP, hD⟩ := cut_B (bs' := [POW G ah z9.1 z9.2.2.1, DQB G z9.1 z9.2.1, DQB G z9.2.2.1 z9.2.2.2, PW G uu.1 uu.2.1 uu.2.2.1 uu.2.2.2.1 uu.2.2.2.2.1 uu.2.2.2.2.2.1 uu.2.2.2.2.2.2.1 uu.2.2.2.2.2.2.2.1 uu.2.2.2.2.2.2.2.2.1 uu.2.2.2.2.2.2.2.2.2.1 uu.2.2.2.2.2.2.2.2.2.2, PZs G k8, PZs G s9]) hP hD [0, 1, 2, 4, 3, 5] (by decide) rfl
        have hP : va_P G.1 CL (POW G ah z9.1 z9.2.2.1 ++ DQB G z9.1 z9.2.1 ++ DQB G z9.2.2.1 z9.2.2.2 ++ PW G uu.1 uu.2.1 uu.2.2.1 uu.2.2.2.1 uu.2.2.2.2.1 uu.2.2.2.2.2.1 uu.2.2.2.2.2.2.1 uu.2.2.2.2.2.2.2.1 uu.2.2.2.2.2.2.2.2.1 uu.2.2.2.2.2.2.2.2.2.1 uu.2.2.2.2.2.2.2.2.2.2 ++ PZs G k8 ++ PZs G s9) _ := hP
        have hD : va_D A (POW G ah z9.1 z9.2.2.1 ++ DQB G z9.1 z9.2.1 ++ DQB G z9.2.2.1 z9.2.2.2 ++ PW G uu.1 uu.2.1 uu.2.2.1 uu.2.2.2.1 uu.2.2.2.2.1 uu.2.2.2.2.2.1 uu.2.2.2.2.2.2.1 uu.2.2.2.2.2.2.2.1 uu.2.2.2.2.2.2.2.2.1 uu.2.2.2.2.2.2.2.2.2.1 uu.2.2.2.2.2.2.2.2.2.2 ++ PZs G k8 ++ PZs G s9) := hD
        refine lv_aload_n hx hb dX3_forgets_10 rfl (lv_at hl 0 rfl) ?_
        refine va_get (D := G.1) (ci := 2) (v := .ref z9.2.2.1) (C := RX3) (T := TX3) (N := 2) hx hb hts in_X3 hown hK hP 0 rfl rfl 1 (by decide) (hts _ q228) (fun _ h9 => h9) rfl dX3_forgets_11 ?_
        refine lv_aload_n hx hb dX3_forgets_14 rfl (lv_at hl 0 rfl) ?_
        refine va_get (D := G.1) (ci := 2) (v := .ref z9.1) (C := RX3) (T := TX3) (N := 2) hx hb hts in_X3 hown hK hP 0 rfl rfl 0 (by decide) (hts _ q227) (fun _ h9 => h9) rfl dX3_forgets_15 ?_
        have hP : va_P G.1 CL (cat [POW G ah z9.1 z9.2.2.1, DQB G z9.1 z9.2.1, DQB G z9.2.2.1 z9.2.2.2, PW G uu.1 uu.2.1 uu.2.2.1 uu.2.2.2.1 uu.2.2.2.2.1 uu.2.2.2.2.2.1 uu.2.2.2.2.2.2.1 uu.2.2.2.2.2.2.2.1 uu.2.2.2.2.2.2.2.2.1 uu.2.2.2.2.2.2.2.2.2.1 uu.2.2.2.2.2.2.2.2.2.2, PZs G k8, PZs G s9]) _ := hP
        have hD : va_D A (cat [POW G ah z9.1 z9.2.2.1, DQB G z9.1 z9.2.1, DQB G z9.2.2.1 z9.2.2.2, PW G uu.1 uu.2.1 uu.2.2.1 uu.2.2.2.1 uu.2.2.2.2.1 uu.2.2.2.2.2.1 uu.2.2.2.2.2.2.1 uu.2.2.2.2.2.2.2.1 uu.2.2.2.2.2.2.2.2.1 uu.2.2.2.2.2.2.2.2.2.1 uu.2.2.2.2.2.2.2.2.2.2, PZs G k8, PZs G s9]) := hD
        obtain ⟨hP, hD⟩ := cut_B (bs' := [DQB G z9.1 z9.2.1, POW G ah z9.1 z9.2.2.1, DQB G z9.2.2.1 z9.2.2.2, PW G uu.1 uu.2.1 uu.2.2.1 uu.2.2.2.1 uu.2.2.2.2.1 uu.2.2.2.2.2.1 uu.2.2.2.2.2.2.1 uu.2.2.2.2.2.2.2.1 uu.2.2.2.2.2.2.2.2.1 uu.2.2.2.2.2.2.2.2.2.1 uu.2.2.2.2.2.2.2.2.2.2, PZs G k8, PZs G s9]) hP hD [1, 0, 2, 3, 4, 5] (by decide) rfl
        have hP : va_P G.1 CL ((DQB G z9.1 z9.2.1) ++ (POW G ah z9.1 z9.2.2.1 ++ DQB G z9.2.2.1 z9.2.2.2 ++ PW G uu.1 uu.2.1 uu.2.2.1 uu.2.2.2.1 uu.2.2.2.2.1 uu.2.2.2.2.2.1 uu.2.2.2.2.2.2.1 uu.2.2.2.2.2.2.2.1 uu.2.2.2.2.2.2.2.2.1 uu.2.2.2.2.2.2.2.2.2.1 uu.2.2.2.2.2.2.2.2.2.2 ++ PZs G k8 ++ PZs G s9)) _ := hP
        have hD : va_D A ((DQB G z9.1 z9.2.1) ++ (POW G ah z9.1 z9.2.2.1 ++ DQB G z9.2.2.1 z9.2.2.2 ++ PW G uu.1 uu.2.1 uu.2.2.1 uu.2.2.2.1 uu.2.2.2.2.1 uu.2.2.2.2.2.1 uu.2.2.2.2.2.2.1 uu.2.2.2.2.2.2.2.1 uu.2.2.2.2.2.2.2.2.1 uu.2.2.2.2.2.2.2.2.2.1 uu.2.2.2.2.2.2.2.2.2.2 ++ PZs G k8 ++ PZs G s9)) := hD
        refine callVr (As := []) (rest := [.ref z9.2.2.1]) (wc := (DQB G z9.1 z9.2.1)) (wr := (POW G ah z9.1 z9.2.2.1 ++ DQB G z9.2.2.1 z9.2.2.2 ++ PW G uu.1 uu.2.1 uu.2.2.1 uu.2.2.2.1 uu.2.2.2.2.1 uu.2.2.2.2.2.1 uu.2.2.2.2.2.2.1 uu.2.2.2.2.2.2.2.1 uu.2.2.2.2.2.2.2.2.1 uu.2.2.2.2.2.2.2.2.2.1 uu.2.2.2.2.2.2.2.2.2.2 ++ PZs G k8 ++ PZs G s9)) ⟨hx, hb, hml, hown, hts⟩ (m_J1_pollLast l G z9.1 z9.2.1 uu.1 (adr k8) (by have h := hz9.1; simp only [adr, List.map_append, List.map_cons, List.map_nil] at h; exact h)) (cwV 0 hts (lw_V q1699 q1700 q1701 q92 q1702) rfl rfl rfl (by decide +kernel) ⟨Nat.le_of_ble_eq_true rfl, Nat.le_of_ble_eq_true rfl⟩) hK hZ hA hP hD hS (ixC (DQB G z9.1 z9.2.1)) (ixR (DQB G z9.1 z9.2.1) (POW G ah z9.1 z9.2.2.1 ++ DQB G z9.2.2.1 z9.2.2.2 ++ PW G uu.1 uu.2.1 uu.2.2.1 uu.2.2.2.1 uu.2.2.2.2.1 uu.2.2.2.2.2.1 uu.2.2.2.2.2.2.1 uu.2.2.2.2.2.2.2.1 uu.2.2.2.2.2.2.2.2.1 uu.2.2.2.2.2.2.2.2.2.1 uu.2.2.2.2.2.2.2.2.2.2 ++ PZs G k8 ++ PZs G s9)) ixC_ok ixR_ok ixC_nd ixR_nd ix_dis 0 8 rfl rfl rfl hl.1 (Nat.le_of_ble_eq_true rfl) ⟨Nat.le_of_ble_eq_true rfl, Nat.le_of_ble_eq_true rfl⟩ rfl dX3_forgets_18 (fun r9 u9 H locs hw9 hP hD hS => ?_)
        obtain ⟨z2_2, e9⟩ : ∃ z, z = u9 := ⟨_, rfl⟩
        subst e9
        obtain ⟨hr9, hz18⟩ := hw9
        subst r9
        have hz18 : DQh z2_2 (adr k8) := hz18
        have hP : va_P G.1 CL (cat [POW G ah z9.1 z9.2.2.1, DQB G z9.2.2.1 z9.2.2.2, PW G uu.1 uu.2.1 uu.2.2.1 uu.2.2.2.1 uu.2.2.2.2.1 uu.2.2.2.2.2.1 uu.2.2.2.2.2.2.1 uu.2.2.2.2.2.2.2.1 uu.2.2.2.2.2.2.2.2.1 uu.2.2.2.2.2.2.2.2.2.1 uu.2.2.2.2.2.2.2.2.2.2, PZs G k8, PZs G s9, DQB G z9.1 z2_2]) _ := (by simpa only [cat, List.append_assoc] using hP)
        have hD : va_D A (cat [POW G ah z9.1 z9.2.2.1, DQB G z9.2.2.1 z9.2.2.2, PW G uu.1 uu.2.1 uu.2.2.1 uu.2.2.2.1 uu.2.2.2.2.1 uu.2.2.2.2.2.1 uu.2.2.2.2.2.2.1 uu.2.2.2.2.2.2.2.1 uu.2.2.2.2.2.2.2.2.1 uu.2.2.2.2.2.2.2.2.2.1 uu.2.2.2.2.2.2.2.2.2.2, PZs G k8, PZs G s9, DQB G z9.1 z2_2]) := (by simpa only [cat, List.append_assoc] using hD)
        obtain ⟨hP, hD⟩ := cut_B (bs' := [POW G ah z9.1 z9.2.2.1, DQB G z9.1 z2_2, DQB G z9.2.2.1 z9.2.2.2, PW G uu.1 uu.2.1 uu.2.2.1 uu.2.2.2.1 uu.2.2.2.2.1 uu.2.2.2.2.2.1 uu.2.2.2.2.2.2.1 uu.2.2.2.2.2.2.2.1 uu.2.2.2.2.2.2.2.2.1 uu.2.2.2.2.2.2.2.2.2.1 uu.2.2.2.2.2.2.2.2.2.2, PZs G k8, PZs G s9]) hP hD [0, 5, 1, 2, 3, 4] (by decide) rfl
        have hP : va_P G.1 CL (POW G ah z9.1 z9.2.2.1 ++ DQB G z9.1 z2_2 ++ DQB G z9.2.2.1 z9.2.2.2 ++ PW G uu.1 uu.2.1 uu.2.2.1 uu.2.2.2.1 uu.2.2.2.2.1 uu.2.2.2.2.2.1 uu.2.2.2.2.2.2.1 uu.2.2.2.2.2.2.2.1 uu.2.2.2.2.2.2.2.2.1 uu.2.2.2.2.2.2.2.2.2.1 uu.2.2.2.2.2.2.2.2.2.2 ++ PZs G k8 ++ PZs G s9) _ := hP
        have hD : va_D A (POW G ah z9.1 z9.2.2.1 ++ DQB G z9.1 z2_2 ++ DQB G z9.2.2.1 z9.2.2.2 ++ PW G uu.1 uu.2.1 uu.2.2.1 uu.2.2.2.1 uu.2.2.2.2.1 uu.2.2.2.2.2.1 uu.2.2.2.2.2.2.1 uu.2.2.2.2.2.2.2.1 uu.2.2.2.2.2.2.2.2.1 uu.2.2.2.2.2.2.2.2.2.1 uu.2.2.2.2.2.2.2.2.2.2 ++ PZs G k8 ++ PZs G s9) := hD
        refine va_castY hx hb hown (hts _ q1155) (KS.nw hZ q1160 rfl) (va_recv hK hP (ci := 1) (q0 := 5) rfl rfl) dX3_forgets_21 ?_
        have hP : va_P G.1 CL (cat [POW G ah z9.1 z9.2.2.1, DQB G z9.1 z2_2, DQB G z9.2.2.1 z9.2.2.2, PW G uu.1 uu.2.1 uu.2.2.1 uu.2.2.2.1 uu.2.2.2.2.1 uu.2.2.2.2.2.1 uu.2.2.2.2.2.2.1 uu.2.2.2.2.2.2.2.1 uu.2.2.2.2.2.2.2.2.1 uu.2.2.2.2.2.2.2.2.2.1 uu.2.2.2.2.2.2.2.2.2.2, PZs G k8, PZs G s9]) _ := hP
        have hD : va_D A (cat [POW G ah z9.1 z9.2.2.1, DQB G z9.1 z2_2, DQB G z9.2.2.1 z9.2.2.2, PW G uu.1 uu.2.1 uu.2.2.1 uu.2.2.2.1 uu.2.2.2.2.1 uu.2.2.2.2.2.1 uu.2.2.2.2.2.2.1 uu.2.2.2.2.2.2.2.1 uu.2.2.2.2.2.2.2.2.1 uu.2.2.2.2.2.2.2.2.2.1 uu.2.2.2.2.2.2.2.2.2.2, PZs G k8, PZs G s9]) := hD
        obtain ⟨hP, hD⟩ := cut_B (bs' := [DQB G z9.2.2.1 z9.2.2.2, PW G uu.1 uu.2.1 uu.2.2.1 uu.2.2.2.1 uu.2.2.2.2.1 uu.2.2.2.2.2.1 uu.2.2.2.2.2.2.1 uu.2.2.2.2.2.2.2.1 uu.2.2.2.2.2.2.2.2.1 uu.2.2.2.2.2.2.2.2.2.1 uu.2.2.2.2.2.2.2.2.2.2, POW G ah z9.1 z9.2.2.1, DQB G z9.1 z2_2, PZs G k8, PZs G s9]) hP hD [2, 3, 0, 1, 4, 5] (by decide) rfl
        have hP : va_P G.1 CL ((DQB G z9.2.2.1 z9.2.2.2 ++ PW G uu.1 uu.2.1 uu.2.2.1 uu.2.2.2.1 uu.2.2.2.2.1 uu.2.2.2.2.2.1 uu.2.2.2.2.2.2.1 uu.2.2.2.2.2.2.2.1 uu.2.2.2.2.2.2.2.2.1 uu.2.2.2.2.2.2.2.2.2.1 uu.2.2.2.2.2.2.2.2.2.2) ++ (POW G ah z9.1 z9.2.2.1 ++ DQB G z9.1 z2_2 ++ PZs G k8 ++ PZs G s9)) _ := hP
        have hD : va_D A ((DQB G z9.2.2.1 z9.2.2.2 ++ PW G uu.1 uu.2.1 uu.2.2.1 uu.2.2.2.1 uu.2.2.2.2.1 uu.2.2.2.2.2.1 uu.2.2.2.2.2.2.1 uu.2.2.2.2.2.2.2.1 uu.2.2.2.2.2.2.2.2.1 uu.2.2.2.2.2.2.2.2.2.1 uu.2.2.2.2.2.2.2.2.2.2) ++ (POW G ah z9.1 z9.2.2.1 ++ DQB G z9.1 z2_2 ++ PZs G k8 ++ PZs G s9)) := hD
        refine callVv (As := [.ref uu.1]) (rest := []) (wc := (DQB G z9.2.2.1 z9.2.2.2 ++ PW G uu.1 uu.2.1 uu.2.2.1 uu.2.2.2.1 uu.2.2.2.2.1 uu.2.2.2.2.2.1 uu.2.2.2.2.2.2.1 uu.2.2.2.2.2.2.2.1 uu.2.2.2.2.2.2.2.2.1 uu.2.2.2.2.2.2.2.2.2.1 uu.2.2.2.2.2.2.2.2.2.2)) (wr := (POW G ah z9.1 z9.2.2.1 ++ DQB G z9.1 z2_2 ++ PZs G k8 ++ PZs G s9)) ⟨hx, hb, hml, hown, hts⟩ (m_J1_addLast__P l G z9.2.2.1 z9.2.2.2 uu.1 uu.2.1 uu.2.2.1 uu.2.2.2.1 uu.2.2.2.2.1 uu.2.2.2.2.2.1 uu.2.2.2.2.2.2.1 uu.2.2.2.2.2.2.2.1 uu.2.2.2.2.2.2.2.2.1 uu.2.2.2.2.2.2.2.2.2.1 uu.2.2.2.2.2.2.2.2.2.2 (adr s9) hz9.2.1 (by simp at hn9 ⊢; omega)) (cwV 1 hts (lw_V q297 q298 q299 q92 q300) rfl rfl rfl (by decide +kernel) ⟨Nat.le_of_ble_eq_true rfl, Nat.le_of_ble_eq_true rfl⟩) hK hZ hA hP hD hS (ixC (DQB G z9.2.2.1 z9.2.2.2 ++ PW G uu.1 uu.2.1 uu.2.2.1 uu.2.2.2.1 uu.2.2.2.2.1 uu.2.2.2.2.2.1 uu.2.2.2.2.2.2.1 uu.2.2.2.2.2.2.2.1 uu.2.2.2.2.2.2.2.2.1 uu.2.2.2.2.2.2.2.2.2.1 uu.2.2.2.2.2.2.2.2.2.2)) (ixR (DQB G z9.2.2.1 z9.2.2.2 ++ PW G uu.1 uu.2.1 uu.2.2.1 uu.2.2.2.1 uu.2.2.2.2.1 uu.2.2.2.2.2.1 uu.2.2.2.2.2.2.1 uu.2.2.2.2.2.2.2.1 uu.2.2.2.2.2.2.2.2.1 uu.2.2.2.2.2.2.2.2.2.1 uu.2.2.2.2.2.2.2.2.2.2) (POW G ah z9.1 z9.2.2.1 ++ DQB G z9.1 z2_2 ++ PZs G k8 ++ PZs G s9)) ixC_ok ixR_ok ixC_nd ixR_nd ix_dis 0 8 rfl rfl rfl hl.1 (Nat.le_of_ble_eq_true rfl) ⟨Nat.le_of_ble_eq_true rfl, Nat.le_of_ble_eq_true rfl⟩ rfl dX3_forgets_24 (fun u9 H locs hw9 hP hD hS => ?_)
        obtain ⟨z2_3, e9⟩ : ∃ z, z = u9 := ⟨_, rfl⟩
        subst e9
        have hw24 : DQh z2_3 ((adr s9) ++ [uu.1]) := hw9
        have hP : va_P G.1 CL (cat [POW G ah z9.1 z9.2.2.1, DQB G z9.1 z2_2, PZs G k8, PZs G s9, DQB G z9.2.2.1 z2_3, PW G uu.1 uu.2.1 uu.2.2.1 uu.2.2.2.1 uu.2.2.2.2.1 uu.2.2.2.2.2.1 uu.2.2.2.2.2.2.1 uu.2.2.2.2.2.2.2.1 uu.2.2.2.2.2.2.2.2.1 uu.2.2.2.2.2.2.2.2.2.1 uu.2.2.2.2.2.2.2.2.2.2]) _ := (by simpa only [cat, List.append_assoc] using hP)
        have hD : va_D A (cat [POW G ah z9.1 z9.2.2.1, DQB G z9.1 z2_2, PZs G k8, PZs G s9, DQB G z9.2.2.1 z2_3, PW G uu.1 uu.2.1 uu.2.2.1 uu.2.2.2.1 uu.2.2.2.2.1 uu.2.2.2.2.2.1 uu.2.2.2.2.2.2.1 uu.2.2.2.2.2.2.2.1 uu.2.2.2.2.2.2.2.2.1 uu.2.2.2.2.2.2.2.2.2.1 uu.2.2.2.2.2.2.2.2.2.2]) := (by simpa only [cat, List.append_assoc] using hD)
        obtain ⟨hP, hD⟩ := cut_B (bs' := [POW G ah z9.1 z9.2.2.1, DQB G z9.1 z2_2, DQB G z9.2.2.1 z2_3, PW G uu.1 uu.2.1 uu.2.2.1 uu.2.2.2.1 uu.2.2.2.2.1 uu.2.2.2.2.2.1 uu.2.2.2.2.2.2.1 uu.2.2.2.2.2.2.2.1 uu.2.2.2.2.2.2.2.2.1 uu.2.2.2.2.2.2.2.2.2.1 uu.2.2.2.2.2.2.2.2.2.2, PZs G k8, PZs G s9]) hP hD [0, 1, 4, 5, 2, 3] (by decide) rfl
        have hP : va_P G.1 CL (POW G ah z9.1 z9.2.2.1 ++ DQB G z9.1 z2_2 ++ DQB G z9.2.2.1 z2_3 ++ PW G uu.1 uu.2.1 uu.2.2.1 uu.2.2.2.1 uu.2.2.2.2.1 uu.2.2.2.2.2.1 uu.2.2.2.2.2.2.1 uu.2.2.2.2.2.2.2.1 uu.2.2.2.2.2.2.2.2.1 uu.2.2.2.2.2.2.2.2.2.1 uu.2.2.2.2.2.2.2.2.2.2 ++ PZs G k8 ++ PZs G s9) _ := hP
        have hD : va_D A (POW G ah z9.1 z9.2.2.1 ++ DQB G z9.1 z2_2 ++ DQB G z9.2.2.1 z2_3 ++ PW G uu.1 uu.2.1 uu.2.2.1 uu.2.2.2.1 uu.2.2.2.2.1 uu.2.2.2.2.2.1 uu.2.2.2.2.2.2.1 uu.2.2.2.2.2.2.2.1 uu.2.2.2.2.2.2.2.2.1 uu.2.2.2.2.2.2.2.2.2.1 uu.2.2.2.2.2.2.2.2.2.2 ++ PZs G k8 ++ PZs G s9) := hD
        have hP : va_P G.1 CL (cat [POW G ah z9.1 z9.2.2.1, DQB G z9.1 z2_2, DQB G z9.2.2.1 z2_3, PW G uu.1 uu.2.1 uu.2.2.1 uu.2.2.2.1 uu.2.2.2.2.1 uu.2.2.2.2.2.1 uu.2.2.2.2.2.2.1 uu.2.2.2.2.2.2.2.1 uu.2.2.2.2.2.2.2.2.1 uu.2.2.2.2.2.2.2.2.2.1 uu.2.2.2.2.2.2.2.2.2.2, PZs G k8, PZs G s9]) _ := hP
        have hD : va_D A (cat [POW G ah z9.1 z9.2.2.1, DQB G z9.1 z2_2, DQB G z9.2.2.1 z2_3, PW G uu.1 uu.2.1 uu.2.2.1 uu.2.2.2.1 uu.2.2.2.2.1 uu.2.2.2.2.2.1 uu.2.2.2.2.2.2.1 uu.2.2.2.2.2.2.2.1 uu.2.2.2.2.2.2.2.2.1 uu.2.2.2.2.2.2.2.2.2.1 uu.2.2.2.2.2.2.2.2.2.2, PZs G k8, PZs G s9]) := hD
        obtain ⟨hP, hD⟩ := cut_B (bs' := [POW G ah z9.1 z9.2.2.1, DQB G z9.1 z2_2, DQB G z9.2.2.1 z2_3, PZs G k8, PZs G s9, PWp G (uu.1, uu.2.1, uu.2.2.1, uu.2.2.2.1, uu.2.2.2.2.1, uu.2.2.2.2.2.1, uu.2.2.2.2.2.2.1, uu.2.2.2.2.2.2.2.1, uu.2.2.2.2.2.2.2.2.1, uu.2.2.2.2.2.2.2.2.2.1, uu.2.2.2.2.2.2.2.2.2.2)]) hP hD [0, 1, 2, 4, 5, 3] (by decide) rfl
        have hP : va_P G.1 CL (PAW G ah (z9.1, z2_2, z9.2.2.1, z2_3) k8 (s9 ++ [(uu.1, uu.2.1, uu.2.2.1, uu.2.2.2.1, uu.2.2.2.2.1, uu.2.2.2.2.2.1, uu.2.2.2.2.2.2.1, uu.2.2.2.2.2.2.2.1, uu.2.2.2.2.2.2.2.2.1, uu.2.2.2.2.2.2.2.2.2.1, uu.2.2.2.2.2.2.2.2.2.2)])) _ := (by rw [PAW_0, PZs_snoc]; exact hP)
        have hD : va_D A (PAW G ah (z9.1, z2_2, z9.2.2.1, z2_3) k8 (s9 ++ [(uu.1, uu.2.1, uu.2.2.1, uu.2.2.2.1, uu.2.2.2.2.1, uu.2.2.2.2.2.1, uu.2.2.2.2.2.2.1, uu.2.2.2.2.2.2.2.1, uu.2.2.2.2.2.2.2.2.1, uu.2.2.2.2.2.2.2.2.2.1, uu.2.2.2.2.2.2.2.2.2.2)])) := (by rw [PAW_0, PZs_snoc]; exact hD)
        have hP : va_P G.1 CL (PAW G ah (z9.1, z2_2, z9.2.2.1, z2_3) k8 (s9 ++ [(uu.1, uu.2.1, uu.2.2.1, uu.2.2.2.1, uu.2.2.2.2.1, uu.2.2.2.2.2.1, uu.2.2.2.2.2.2.1, uu.2.2.2.2.2.2.2.1, uu.2.2.2.2.2.2.2.2.1, uu.2.2.2.2.2.2.2.2.2.1, uu.2.2.2.2.2.2.2.2.2.2)])) _ := hP
        have hD : va_D A (PAW G ah (z9.1, z2_2, z9.2.2.1, z2_3) k8 (s9 ++ [(uu.1, uu.2.1, uu.2.2.1, uu.2.2.2.1, uu.2.2.2.2.1, uu.2.2.2.2.2.1, uu.2.2.2.2.2.2.1, uu.2.2.2.2.2.2.2.1, uu.2.2.2.2.2.2.2.2.1, uu.2.2.2.2.2.2.2.2.2.1, uu.2.2.2.2.2.2.2.2.2.2)])) := hD
        refine lv_goto (tgt := 0) hx hb dX3_forgets_27 (by decide) ?_
        exact ih0 (z9.1, z2_2, z9.2.2.1, z2_3) k8 (s9 ++ [(uu.1, uu.2.1, uu.2.2.1, uu.2.2.2.1, uu.2.2.2.2.1, uu.2.2.2.2.2.1, uu.2.2.2.2.2.2.1, uu.2.2.2.2.2.2.2.1, uu.2.2.2.2.2.2.2.2.1, uu.2.2.2.2.2.2.2.2.2.1, uu.2.2.2.2.2.2.2.2.2.2)]) (by simp at hf ⊢; omega) ⟨hz18, (by simp only [adr, List.map_append, List.map_cons, List.map_nil]; exact hw24), (by intro x hx i; exact hz9.2.2 x (by simp only [List.mem_append, List.mem_cons, List.not_mem_nil, or_false] at hx ⊢; rcases hx with hx | hx | rfl <;> simp [*]) i)⟩ (by simp at hn9 ⊢; omega) _ _ _ hP hD hS (lv_sub hl [0] rfl)
  exact lp0 _ pz ks ss (Nat.lt_succ_self _) hz rfl _ _ _ hP hD hS (lv_sub hl [0] rfl)
set_option maxHeartbeats 4000000 in
set_option maxRecDepth 100000 in
theorem m_X3_with (l : Launch) (G : GG) (ph : Nat) (pd : Nat → Nat) (nr : Nat) (nc : Nat) (pL : Nat → Nat) (pG : Nat → Nat) (pB : Nat → Bool) (pk : Nat → Int32) (pa : Nat → Nat) (pt : Nat → Nat) (pm : Nat) (ah : Nat) (pz : PZA) (ks : List PS) (ss : List PS) (hL : ∀ i, pL i < 65536) (hG : ∀ i, pG i < 65536) (hz : PAh pz ks ss) (hn : ss.length < 16) : MM l G yX3_with cX3_with 2 (some (.object "VowelTorus$Past")) ⟨2, 0, 0, 43⟩ [.ref ah, .ref ph] (PW G ph pd nr nc pL pG pB pk pa pt pm ++ PAW G ah pz ks ss) (Qr_ G (fun (r : Nat) (u : (PZA)) => (r = ah) ∧ (PAh u ks (ss ++ [(ph, pd, nr, nc, pL, pG, pB, pk, pa, pt, pm)]))) (fun (r : Nat) (u : (PZA)) => (PAW G ah u ks (ss ++ [(ph, pd, nr, nc, pL, pG, pB, pk, pa, pt, pm)])))) := by
  refine MM.of (by decide) (Nat.le_of_ble_eq_true rfl) ?_
  intro p e s m args below meth cd A C hini hA hK hZ hP hD ls hl
  generalize hQ : MQ below ((Qr_ G (fun (r : Nat) (u : (PZA)) => (r = ah) ∧ (PAh u ks (ss ++ [(ph, pd, nr, nc, pL, pG, pB, pk, pa, pt, pm)]))) (fun (r : Nat) (u : (PZA)) => (PAW G ah u ks (ss ++ [(ph, pd, nr, nc, pL, pG, pB, pk, pa, pt, pm)])))) A) args s (⟨2, 0, 0, 43⟩ : Room).cells (⟨2, 0, 0, 43⟩ : Room).slots A = Q
  obtain ⟨hx, hb, hr, hts, hown, hlk, hml⟩ := C
  have hown : s.vm.findClass RX3 = some m.cls := hown
  have hS : va_S A s.heap s.heap [] := va_S.rf
  have hl : lv_has ls 2 [(0, .ref ah), (1, .ref ph)] := hl
  have hP : va_P G.1 CL (cat [PW G ph pd nr nc pL pG pB pk pa pt pm, POW G ah pz.1 pz.2.2.1, DQB G pz.1 pz.2.1, DQB G pz.2.2.1 pz.2.2.2, PZs G ks, PZs G ss]) _ := hP
  have hD : va_D A (cat [PW G ph pd nr nc pL pG pB pk pa pt pm, POW G ah pz.1 pz.2.2.1, DQB G pz.1 pz.2.1, DQB G pz.2.2.1 pz.2.2.2, PZs G ks, PZs G ss]) := hD
  obtain ⟨hP, hD⟩ := cut_B (bs' := [POW G ah pz.1 pz.2.2.1, DQB G pz.1 pz.2.1, DQB G pz.2.2.1 pz.2.2.2, PW G ph pd nr nc pL pG pB pk pa pt pm, PZs G ks, PZs G ss]) hP hD [1, 2, 3, 0, 4, 5] (by decide) rfl
  have hP : va_P G.1 CL (POW G ah pz.1 pz.2.2.1 ++ DQB G pz.1 pz.2.1 ++ DQB G pz.2.2.1 pz.2.2.2 ++ PW G ph pd nr nc pL pG pB pk pa pt pm ++ PZs G ks ++ PZs G ss) _ := hP
  have hD : va_D A (POW G ah pz.1 pz.2.2.1 ++ DQB G pz.1 pz.2.1 ++ DQB G pz.2.2.1 pz.2.2.2 ++ PW G ph pd nr nc pL pG pB pk pa pt pm ++ PZs G ks ++ PZs G ss) := hD
  refine lv_aload_n hx hb dX3_with_0 rfl (lv_at hl 0 rfl) ?_
  refine va_get (D := G.1) (ci := 2) (v := .ref pz.2.2.1) (C := RX3) (T := TX3) (N := 2) hx hb hts in_X3 hown hK hP 0 rfl rfl 1 (by decide) (hts _ q228) (fun _ h9 => h9) rfl dX3_with_1 ?_
  refine lv_aload_n hx hb dX3_with_4 rfl (lv_at hl 1 rfl) ?_
  have hP : va_P G.1 CL (cat [POW G ah pz.1 pz.2.2.1, DQB G pz.1 pz.2.1, DQB G pz.2.2.1 pz.2.2.2, PW G ph pd nr nc pL pG pB pk pa pt pm, PZs G ks, PZs G ss]) _ := hP
  have hD : va_D A (cat [POW G ah pz.1 pz.2.2.1, DQB G pz.1 pz.2.1, DQB G pz.2.2.1 pz.2.2.2, PW G ph pd nr nc pL pG pB pk pa pt pm, PZs G ks, PZs G ss]) := hD
  obtain ⟨hP, hD⟩ := cut_B (bs' := [DQB G pz.2.2.1 pz.2.2.2, PW G ph pd nr nc pL pG pB pk pa pt pm, POW G ah pz.1 pz.2.2.1, DQB G pz.1 pz.2.1, PZs G ks, PZs G ss]) hP hD [2, 3, 0, 1, 4, 5] (by decide) rfl
  have hP : va_P G.1 CL ((DQB G pz.2.2.1 pz.2.2.2 ++ PW G ph pd nr nc pL pG pB pk pa pt pm) ++ (POW G ah pz.1 pz.2.2.1 ++ DQB G pz.1 pz.2.1 ++ PZs G ks ++ PZs G ss)) _ := hP
  have hD : va_D A ((DQB G pz.2.2.1 pz.2.2.2 ++ PW G ph pd nr nc pL pG pB pk pa pt pm) ++ (POW G ah pz.1 pz.2.2.1 ++ DQB G pz.1 pz.2.1 ++ PZs G ks ++ PZs G ss)) := hD
  refine callVv (As := [.ref ph]) (rest := []) (wc := (DQB G pz.2.2.1 pz.2.2.2 ++ PW G ph pd nr nc pL pG pB pk pa pt pm)) (wr := (POW G ah pz.1 pz.2.2.1 ++ DQB G pz.1 pz.2.1 ++ PZs G ks ++ PZs G ss)) ⟨hx, hb, hml, hown, hts⟩ (m_J1_addLast__P l G pz.2.2.1 pz.2.2.2 ph pd nr nc pL pG pB pk pa pt pm (adr ss) hz.2.1 (by simp; omega)) (cwV 1 hts (lw_V q297 q298 q299 q92 q300) rfl rfl rfl (by decide +kernel) ⟨Nat.le_of_ble_eq_true rfl, Nat.le_of_ble_eq_true rfl⟩) hK hZ hA hP hD hS (ixC (DQB G pz.2.2.1 pz.2.2.2 ++ PW G ph pd nr nc pL pG pB pk pa pt pm)) (ixR (DQB G pz.2.2.1 pz.2.2.2 ++ PW G ph pd nr nc pL pG pB pk pa pt pm) (POW G ah pz.1 pz.2.2.1 ++ DQB G pz.1 pz.2.1 ++ PZs G ks ++ PZs G ss)) ixC_ok ixR_ok ixC_nd ixR_nd ix_dis 0 8 rfl rfl rfl hl.1 (Nat.le_of_ble_eq_true rfl) ⟨Nat.le_of_ble_eq_true rfl, Nat.le_of_ble_eq_true rfl⟩ rfl dX3_with_5 (fun u9 H locs hw9 hP hD hS => ?_)
  obtain ⟨z2_1, e9⟩ : ∃ z, z = u9 := ⟨_, rfl⟩
  subst e9
  have hw5 : DQh z2_1 ((adr ss) ++ [ph]) := hw9
  have hP : va_P G.1 CL (cat [POW G ah pz.1 pz.2.2.1, DQB G pz.1 pz.2.1, PZs G ks, PZs G ss, DQB G pz.2.2.1 z2_1, PW G ph pd nr nc pL pG pB pk pa pt pm]) _ := (by simpa only [cat, List.append_assoc] using hP)
  have hD : va_D A (cat [POW G ah pz.1 pz.2.2.1, DQB G pz.1 pz.2.1, PZs G ks, PZs G ss, DQB G pz.2.2.1 z2_1, PW G ph pd nr nc pL pG pB pk pa pt pm]) := (by simpa only [cat, List.append_assoc] using hD)
  obtain ⟨hP, hD⟩ := cut_B (bs' := [POW G ah pz.1 pz.2.2.1, DQB G pz.1 pz.2.1, DQB G pz.2.2.1 z2_1, PW G ph pd nr nc pL pG pB pk pa pt pm, PZs G ks, PZs G ss]) hP hD [0, 1, 4, 5, 2, 3] (by decide) rfl
  have hP : va_P G.1 CL (POW G ah pz.1 pz.2.2.1 ++ DQB G pz.1 pz.2.1 ++ DQB G pz.2.2.1 z2_1 ++ PW G ph pd nr nc pL pG pB pk pa pt pm ++ PZs G ks ++ PZs G ss) _ := hP
  have hD : va_D A (POW G ah pz.1 pz.2.2.1 ++ DQB G pz.1 pz.2.1 ++ DQB G pz.2.2.1 z2_1 ++ PW G ph pd nr nc pL pG pB pk pa pt pm ++ PZs G ks ++ PZs G ss) := hD
  refine lv_aload_n hx hb dX3_with_8 rfl (lv_at hl 0 rfl) ?_
  have hP : va_P G.1 CL (cat [POW G ah pz.1 pz.2.2.1, DQB G pz.1 pz.2.1, DQB G pz.2.2.1 z2_1, PW G ph pd nr nc pL pG pB pk pa pt pm, PZs G ks, PZs G ss]) _ := hP
  have hD : va_D A (cat [POW G ah pz.1 pz.2.2.1, DQB G pz.1 pz.2.1, DQB G pz.2.2.1 z2_1, PW G ph pd nr nc pL pG pB pk pa pt pm, PZs G ks, PZs G ss]) := hD
  obtain ⟨hP, hD⟩ := cut_B (bs' := [POW G ah pz.1 pz.2.2.1, DQB G pz.1 pz.2.1, DQB G pz.2.2.1 z2_1, PZs G ks, PZs G ss, PWp G (ph, pd, nr, nc, pL, pG, pB, pk, pa, pt, pm)]) hP hD [0, 1, 2, 4, 5, 3] (by decide) rfl
  have hP : va_P G.1 CL (PAW G ah (pz.1, pz.2.1, pz.2.2.1, z2_1) ks (ss ++ [(ph, pd, nr, nc, pL, pG, pB, pk, pa, pt, pm)])) _ := (by rw [PAW_0, PZs_snoc]; exact hP)
  have hD : va_D A (PAW G ah (pz.1, pz.2.1, pz.2.2.1, z2_1) ks (ss ++ [(ph, pd, nr, nc, pL, pG, pB, pk, pa, pt, pm)])) := (by rw [PAW_0, PZs_snoc]; exact hD)
  have hP : va_P G.1 CL (PAW G ah (pz.1, pz.2.1, pz.2.2.1, z2_1) ks (ss ++ [(ph, pd, nr, nc, pL, pG, pB, pk, pa, pt, pm)])) _ := hP
  have hD : va_D A (PAW G ah (pz.1, pz.2.1, pz.2.2.1, z2_1) ks (ss ++ [(ph, pd, nr, nc, pL, pG, pB, pk, pa, pt, pm)])) := hD
  subst hQ
  exact ret_r hx hb hr (Or.inl ⟨_, rfl⟩) hlk (pz.1, pz.2.1, pz.2.2.1, z2_1) ⟨rfl, ⟨hz.1, (by simp only [adr, List.map_append, List.map_cons, List.map_nil]; exact hw5), (by intro x hx i; simp only [List.mem_append, List.mem_cons, List.not_mem_nil, or_false] at hx; rcases hx with hx | hx | rfl <;> first | exact ⟨hL i, hG i⟩ | exact hz.2.2 x (by simp [hx]) i)⟩⟩ hP hD hS dX3_with_9
set_option maxHeartbeats 4000000 in
set_option maxRecDepth 100000 in
theorem m_X3_init (l : Launch) (G : GG) (ah : Nat)  : MM l G yX3_init cX3_init 1 none ⟨3, 4, 40, 52⟩ [.ref ah] (OX3W G ah .null .null) (Qv_ G (fun (u : (PZA)) => PAh u [] []) (fun (u : (PZA)) => (PAW G ah u ([] : List PS) ([] : List PS)))) := by
  refine MM.of (by decide) (Nat.le_of_ble_eq_true rfl) ?_
  intro p e s m args below meth cd A C hini hA hK hZ hP hD ls hl
  generalize hQ : MQ below ((Qv_ G (fun (u : (PZA)) => PAh u [] []) (fun (u : (PZA)) => (PAW G ah u ([] : List PS) ([] : List PS)))) A) args s (⟨3, 4, 40, 52⟩ : Room).cells (⟨3, 4, 40, 52⟩ : Room).slots A = Q
  obtain ⟨hx, hb, hr, hts, hown, hlk, hml⟩ := C
  have hown : s.vm.findClass RX3 = some m.cls := hown
  have hS : va_S A s.heap s.heap [] := va_S.rf
  have hl : lv_has ls 1 [(0, .ref ah)] := hl
  refine lv_aload_n hx hb dX3_init_0 rfl (lv_at hl 0 rfl) ?_
  refine W.objInit hx hb hown (hts _ q203) (hts _ q129) (hts _ q130) rfl (by rw [hml]; exact hl.1) rfl dX3_init_1 (Nat.le_of_ble_eq_true rfl) (Nat.le_of_ble_eq_true rfl) ?_
  refine W.eq (g2 := F0 m 4 ls []) rfl ?_
  refine lv_aload_n hx hb dX3_init_4 rfl (lv_at hl 0 rfl) ?_
  refine va_new (own := RX3) (C := RJ1) (T := TJ1) (N := 3) (ci := 8) (index := 7) hx hb hts in_J1 tyJ1 tyJ1_ok hown (hts _ q204) (hts _ q205) (hts _ q92) hK hP hD hS hA rfl (fs := [.null, (.int (nI 0)), (.int (nI 0))]) (fun j hj => by rcases (show j = 0 ∨ j = 1 ∨ j = 2 by omega) with rfl | rfl | rfl <;> rfl) (Nat.le_of_ble_eq_true rfl) (Nat.le_of_ble_eq_true rfl) dX3_init_5 (fun q1 H hP hD hS => ?_)
  refine W.widen (k := 1) (n := 3) (Nat.le_refl _) (Nat.le_refl _) ?_
  have hP : va_P G.1 CL (OX3W G ah .null .null ++ OJ1W G q1 .null (.int (nI 0)) (.int (nI 0))) _ := hP
  have hD : va_D A (OX3W G ah .null .null ++ OJ1W G q1 .null (.int (nI 0)) (.int (nI 0))) := hD
  refine lv_dup hx hb dX3_init_8 rfl ?_
  refine callIv (As := []) (rest := [.ref q1, .ref ah]) (wc := (OJ1W G q1 .null (.int (nI 0)) (.int (nI 0)))) (wr := (OX3W G ah .null .null)) ⟨hx, hb, hml, hown, hts⟩ (m_J1_init l G q1 ) (cwI 0 hts (lw_meth q208) rfl rfl rfl (hts _ q92) (hts _ q206) (hts _ q207) rfl (by decide +kernel) ⟨Nat.le_of_ble_eq_true rfl, Nat.le_of_ble_eq_true rfl⟩) hK hZ hA hP hD hS [1] [0] rfl rfl (by decide) (by decide) (by decide) rfl hl.1 (Nat.le_of_ble_eq_true rfl) ⟨Nat.le_of_ble_eq_true rfl, Nat.le_of_ble_eq_true rfl⟩ rfl dX3_init_9 (fun u9 H locs hw9 hP hD hS => ?_)
  refine W.widen (k := 2) (n := 20) (Nat.le_refl _) (Nat.le_refl _) ?_
  obtain ⟨z2_2, e9⟩ : ∃ z, z = u9 := ⟨_, rfl⟩
  subst e9
  have hz9a : DQh z2_2 [] := hw9
  have hP : va_P G.1 CL (OX3W G ah .null .null ++ DQB G q1 z2_2) _ := hP
  have hD : va_D A (OX3W G ah .null .null ++ DQB G q1 z2_2) := hD
  refine va_putF (D := G.1) (ci := 2) (v := (.ref q1)) (C := RX3) (T := TX3) (N := 2) hx hb hts in_X3 tyX3 tyX3_ok nmX3 hown hK hP hD hS 0 rfl rfl 0 (by decide) (hts _ q227) (fun _ h9 => h9) rfl (hini rfl) rfl (tyX3_ok 0 (by decide)) rfl rfl (Nat.le_of_ble_eq_true rfl) dX3_init_12 (fun H locs hP hD hS => ?_)
  have hP : va_P G.1 CL (OX3W G ah (.ref q1) .null ++ DQB G q1 z2_2) _ := hP
  have hD : va_D A (OX3W G ah (.ref q1) .null ++ DQB G q1 z2_2) := hD
  refine lv_aload_n hx hb dX3_init_15 rfl (lv_at hl 0 rfl) ?_
  refine va_new (own := RX3) (C := RJ1) (T := TJ1) (N := 3) (ci := 8) (index := 7) hx hb hts in_J1 tyJ1 tyJ1_ok hown (hts _ q204) (hts _ q205) (hts _ q92) hK hP hD hS hA rfl (fs := [.null, (.int (nI 0)), (.int (nI 0))]) (fun j hj => by rcases (show j = 0 ∨ j = 1 ∨ j = 2 by omega) with rfl | rfl | rfl <;> rfl) (Nat.le_of_ble_eq_true rfl) (Nat.le_of_ble_eq_true rfl) dX3_init_16 (fun q3 H hP hD hS => ?_)
  refine W.widen (k := 3) (n := 23) (Nat.le_refl _) (Nat.le_refl _) ?_
  have hP : va_P G.1 CL (OX3W G ah (.ref q1) .null ++ DQB G q1 z2_2 ++ OJ1W G q3 .null (.int (nI 0)) (.int (nI 0))) _ := hP
  have hD : va_D A (OX3W G ah (.ref q1) .null ++ DQB G q1 z2_2 ++ OJ1W G q3 .null (.int (nI 0)) (.int (nI 0))) := hD
  refine lv_dup hx hb dX3_init_19 rfl ?_
  refine callIv (As := []) (rest := [.ref q3, .ref ah]) (wc := (OJ1W G q3 .null (.int (nI 0)) (.int (nI 0)))) (wr := (OX3W G ah (.ref q1) .null ++ DQB G q1 z2_2)) ⟨hx, hb, hml, hown, hts⟩ (m_J1_init l G q3 ) (cwI 0 hts (lw_meth q208) rfl rfl rfl (hts _ q92) (hts _ q206) (hts _ q207) rfl (by decide +kernel) ⟨Nat.le_of_ble_eq_true rfl, Nat.le_of_ble_eq_true rfl⟩) hK hZ hA hP hD hS [3] [0, 1, 2] rfl rfl (by decide) (by decide) (by decide) rfl hl.1 (Nat.le_of_ble_eq_true rfl) ⟨Nat.le_of_ble_eq_true rfl, Nat.le_of_ble_eq_true rfl⟩ rfl dX3_init_20 (fun u9 H locs hw9 hP hD hS => ?_)
  refine W.widen (k := 4) (n := 40) (Nat.le_refl _) (Nat.le_refl _) ?_
  obtain ⟨z2_4, e9⟩ : ∃ z, z = u9 := ⟨_, rfl⟩
  subst e9
  have hw20 : DQh z2_4 [] := hw9
  have hP : va_P G.1 CL (OX3W G ah (.ref q1) .null ++ DQB G q1 z2_2 ++ DQB G q3 z2_4) _ := hP
  have hD : va_D A (OX3W G ah (.ref q1) .null ++ DQB G q1 z2_2 ++ DQB G q3 z2_4) := hD
  refine va_putF (D := G.1) (ci := 2) (v := (.ref q3)) (C := RX3) (T := TX3) (N := 2) hx hb hts in_X3 tyX3 tyX3_ok nmX3 hown hK hP hD hS 0 rfl rfl 1 (by decide) (hts _ q228) (fun _ h9 => h9) rfl (hini rfl) rfl (tyX3_ok 1 (by decide)) rfl rfl (Nat.le_of_ble_eq_true rfl) dX3_init_23 (fun H locs hP hD hS => ?_)
  have hP : va_P G.1 CL (OX3W G ah (.ref q1) (.ref q3) ++ DQB G q1 z2_2 ++ DQB G q3 z2_4) _ := hP
  have hD : va_D A (OX3W G ah (.ref q1) (.ref q3) ++ DQB G q1 z2_2 ++ DQB G q3 z2_4) := hD
  have hP : va_P G.1 CL (PAW G ah (q1, z2_2, q3, z2_4) ([] : List PS) ([] : List PS)) _ := hP
  have hD : va_D A (PAW G ah (q1, z2_2, q3, z2_4) ([] : List PS) ([] : List PS)) := hD
  subst hQ
  exact ret_v hx hb hr hlk (q1, z2_2, q3, z2_4) ⟨hz9a, hw20, fun x hx => absurd hx (by simp)⟩ hP hD hS dX3_init_26
