set_option maxHeartbeats 4000000 in
set_option maxRecDepth 100000 in
theorem m_X2_writes__L (l : Launch) (G : GG) (ph : Nat) (pd : Nat → Nat) (nr : Nat) (nc : Nat) (pL : Nat → Nat) (pG : Nat → Nat) (pB : Nat → Bool) (pk : Nat → Int32) (pa : Nat → Nat) (pt : Nat → Nat) (pm : Nat) (sh : Nat) (sz : SBZ) (hd : 2 ≤ nr ∧ nr ≤ 3 ∧ 2 ≤ nc ∧ nc ≤ 3) (hL : ∀ q, pL q < 65536) (hz : SBh sz []) : MM l G yX2_writes cX2_writes 4 none ⟨8, 36, 8820, 179⟩ [.ref ph, .ref sh, .ref (pd 0)] (PW G ph pd nr nc pL pG pB pk pa pt pm ++ SBB G sh sz) (Qv_ G (fun (u : (SBZ)) => SBh u (txN nc pL (nr * nc))) (fun (u : (SBZ)) => (PW G ph pd nr nc pL pG pB pk pa pt pm ++ SBB G sh u))) := by
  refine MM.of (by decide) (Nat.le_of_ble_eq_true rfl) ?_
  intro p e s m args below meth cd A C hini hA hK hZ hP hD ls hl
  generalize hQ : MQ below ((Qv_ G (fun (u : (SBZ)) => SBh u (txN nc pL (nr * nc))) (fun (u : (SBZ)) => (PW G ph pd nr nc pL pG pB pk pa pt pm ++ SBB G sh u))) A) args s (⟨8, 36, 8820, 179⟩ : Room).cells (⟨8, 36, 8820, 179⟩ : Room).slots A = Q
  obtain ⟨hx, hb, hr, hts, hown, hlk, hml⟩ := C
  have hown : s.vm.findClass RX2 = some m.cls := hown
  have hS : va_S A s.heap s.heap [] := va_S.rf
  have hl : lv_has ls 4 [(0, .ref ph), (1, .ref sh), (2, .ref (pd 0))] := hl
  have hmu := dm_mul hd
  refine lv_iconst (v := nI 0) hx hb dX2_writes_0 (by decide) ?_
  refine lv_istore_n (lv' := [(3, .int (nI 0)), (0, .ref ph), (1, .ref sh), (2, .ref (pd 0))]) hx hb dX2_writes_1 rfl hl (by decide) rfl (fun ls hl => ?_)
  have lp2 : ∀ (f : Nat) (i : Nat) (z : SBZ), nr * nc - i < f → (i ≤ nr * nc) → (SBh z (txN nc pL i)) → ∀ (H : Heap) (locs : List Loc) (ls : Array Slot), va_P G.1 CL (PW G ph pd nr nc pL pG pB pk pa pt pm ++ SBB G sh z) H → va_D A (PW G ph pd nr nc pL pG pB pk pa pt pm ++ SBB G sh z) → va_S A s.heap H locs → lv_has ls 4 [(3, .int (nI i)), (0, .ref ph), (1, .ref sh), (2, .ref (pd 0))] → W p l e (⟨8, 36, 8820, 179⟩ : Room) s m args below meth cd H locs (4 * i) (980 * i) Q (F0 m 2 ls []) := by
    intro f
    induction f with
    | zero => intro i z hf; exact absurd hf (Nat.not_lt_zero _)
    | succ f ih2 =>
      intro i z hf hi hz9 H locs ls hP hD hS hl
      have hln := txN_len nc pL i
      refine lv_iload_n hx hb dX2_writes_2 rfl (lv_at hl 0 rfl) ?_
      refine lv_aload_n hx hb dX2_writes_3 rfl (lv_at hl 1 rfl) ?_
      refine callVi (As := []) (rest := [.int (nI i)]) (wc := (PW G ph pd nr nc pL pG pB pk pa pt pm)) (wr := (SBB G sh z)) ⟨hx, hb, hml, hown, hts⟩ (m_X2_places l G ph pd nr nc pL pG pB pk pa pt pm ) (cwV 0 hts (lw_V q474 q475 q476 q89 q477) rfl rfl rfl (by decide +kernel) ⟨Nat.le_of_ble_eq_true rfl, Nat.le_of_ble_eq_true rfl⟩) hK hZ hA hP hD hS [0, 1, 2, 3, 4, 5] [6, 7] rfl rfl (by decide) (by decide) (by decide) 0 1 rfl rfl rfl hl.1 (Nat.le_of_ble_eq_true rfl) ⟨by show (4 * i) + 0 ≤ 36; omega, by show (980 * i) + 0 ≤ 8820; omega⟩ rfl dX2_writes_4 (fun r9 u9 H locs hw9 hP hD hS => ?_)
      subst hw9
      obtain ⟨hP, hD⟩ := re_PD (w := (PW G ph pd nr nc pL pG pB pk pa pt pm ++ SBB G sh z)) hP hD [2, 3, 4, 5, 6, 7, 0, 1] (by decide) rfl
      refine n_cmp_ge (tgt := 44) hx hb dX2_writes_7 (by decide) (by omega) (by omega) (fun c7 => ?_) (fun c7 => ?_)
      · skip
        subst hQ
        refine W.widen (k := 36) (n := 8820) (by show (4 * i) ≤ 36; omega) (by show (980 * i) ≤ 8820; omega) ?_
        exact ret_v hx hb hr hlk z (by rw [show nr * nc = i by omega]; exact hz9) hP hD hS dX2_writes_44
      · skip
        refine lv_iload_n hx hb dX2_writes_10 rfl (lv_at hl 0 rfl) ?_
        refine n_if_le (tgt := 30) hx hb dX2_writes_11 (by decide) (by omega) (fun c11 => ?_) (fun c11 => ?_)
        · skip
          refine lv_aload_n hx hb dX2_writes_30 rfl (lv_at hl 2 rfl) ?_
          refine lv_aload_n hx hb dX2_writes_31 rfl (lv_at hl 3 rfl) ?_
          refine lv_iload_n hx hb dX2_writes_32 rfl (lv_at hl 0 rfl) ?_
          refine n_cald hx hb hK hP 1 2 rfl rfl (by omega) (by decide) dX2_writes_33 ?_
          refine callVr (As := [.int (nI (pL i))]) (rest := []) (wc := (SBB G sh z)) (wr := (PW G ph pd nr nc pL pG pB pk pa pt pm)) ⟨hx, hb, hml, hown, hts⟩ (m_J3_append_3 l G sh z (txN nc pL i) (pL i) (by first | exact hz26 | exact hz9) (by first | omega | (simp; omega)) (hL _)) (cwV 1 hts (lw_V q970 q971 q972 q94 q973) rfl rfl rfl (by decide +kernel) ⟨Nat.le_of_ble_eq_true rfl, Nat.le_of_ble_eq_true rfl⟩) hK hZ hA hP hD hS [6, 7] [0, 1, 2, 3, 4, 5] rfl rfl (by decide) (by decide) (by decide) 0 9 rfl rfl rfl hl.1 (Nat.le_of_ble_eq_true rfl) ⟨by show (4 * i) + 2 ≤ 36; omega, by show (980 * i) + 490 ≤ 8820; omega⟩ rfl dX2_writes_34 (fun r9 u9 H locs hw9 hP hD hS => ?_)
          refine W.widen (k := ((4 * i) + 2)) (n := ((980 * i) + 490)) (Nat.le_refl _) (Nat.le_refl _) ?_
          obtain ⟨z2_2, e9⟩ : ∃ z, z = u9 := ⟨_, rfl⟩
          subst e9
          obtain ⟨hr9, hw34⟩ := hw9
          subst r9
          have hw34 : SBh z2_2 ((txN nc pL i) ++ [(pL i)]) := hw34
          have hP : va_P G.1 CL (PW G ph pd nr nc pL pG pB pk pa pt pm ++ SBB G sh z2_2) _ := hP
          have hD : va_D A (PW G ph pd nr nc pL pG pB pk pa pt pm ++ SBB G sh z2_2) := hD
          refine lv_pop hx hb dX2_writes_37 rfl ?_
          have hzn : SBh z2_2 (txN nc pL (i + 1)) := (by simp only [txN]; first | (rw [if_pos (by omega)]; exact hw34) | (rw [if_neg (by omega), List.append_nil]; exact hw34))
          refine lv_iinc (v := nI (i + 1)) (lv' := [(3, .int (nI (i + 1))), (0, .ref ph), (1, .ref sh), (2, .ref (pd 0))]) hx hb dX2_writes_38 hl (k := 0) rfl (nI_add _ _) (by decide) rfl (fun ls hl => ?_)
          refine lv_goto (tgt := 2) hx hb dX2_writes_41 (by decide) ?_
          refine W.widen (k := (4 * (i + 1))) (n := (980 * (i + 1))) (by show ((4 * i) + 2) ≤ (4 * (i + 1)); omega) (by show ((980 * i) + 490) ≤ (980 * (i + 1)); omega) ?_
          exact ih2 (i + 1) z2_2 (by omega) (by omega) hzn _ _ _ hP hD hS (lv_sub hl [0, 1, 2, 3] rfl)
        · skip
          refine lv_iload_n hx hb dX2_writes_14 rfl (lv_at hl 0 rfl) ?_
          refine lv_aload_n hx hb dX2_writes_15 rfl (lv_at hl 1 rfl) ?_
          refine va_get (D := G.1) (ci := 1) (v := .int (nI nc)) (C := RX2) (T := TX2) (N := 14) hx hb hts in_X2 hown hK hP 0 rfl rfl 1 (by decide) (hts _ q143) (fun _ h9 => h9) rfl dX2_writes_16 ?_
          refine n_irem hx hb (by omega) (by omega) (by omega) dX2_writes_19 ?_
          refine n_if_ne (tgt := 30) hx hb dX2_writes_20 (by decide) (by have := Nat.mod_lt i (show 0 < nc by omega); omega) (fun c20 => ?_) (fun c20 => ?_)
          · skip
            refine lv_aload_n hx hb dX2_writes_30 rfl (lv_at hl 2 rfl) ?_
            refine lv_aload_n hx hb dX2_writes_31 rfl (lv_at hl 3 rfl) ?_
            refine lv_iload_n hx hb dX2_writes_32 rfl (lv_at hl 0 rfl) ?_
            refine n_cald hx hb hK hP 1 2 rfl rfl (by omega) (by decide) dX2_writes_33 ?_
            refine callVr (As := [.int (nI (pL i))]) (rest := []) (wc := (SBB G sh z)) (wr := (PW G ph pd nr nc pL pG pB pk pa pt pm)) ⟨hx, hb, hml, hown, hts⟩ (m_J3_append_3 l G sh z (txN nc pL i) (pL i) (by first | exact hz26 | exact hz9) (by first | omega | (simp; omega)) (hL _)) (cwV 1 hts (lw_V q970 q971 q972 q94 q973) rfl rfl rfl (by decide +kernel) ⟨Nat.le_of_ble_eq_true rfl, Nat.le_of_ble_eq_true rfl⟩) hK hZ hA hP hD hS [6, 7] [0, 1, 2, 3, 4, 5] rfl rfl (by decide) (by decide) (by decide) 0 9 rfl rfl rfl hl.1 (Nat.le_of_ble_eq_true rfl) ⟨by show (4 * i) + 2 ≤ 36; omega, by show (980 * i) + 490 ≤ 8820; omega⟩ rfl dX2_writes_34 (fun r9 u9 H locs hw9 hP hD hS => ?_)
            refine W.widen (k := ((4 * i) + 2)) (n := ((980 * i) + 490)) (Nat.le_refl _) (Nat.le_refl _) ?_
            obtain ⟨z2_3, e9⟩ : ∃ z, z = u9 := ⟨_, rfl⟩
            subst e9
            obtain ⟨hr9, hw34⟩ := hw9
            subst r9
            have hw34 : SBh z2_3 ((txN nc pL i) ++ [(pL i)]) := hw34
            have hP : va_P G.1 CL (PW G ph pd nr nc pL pG pB pk pa pt pm ++ SBB G sh z2_3) _ := hP
            have hD : va_D A (PW G ph pd nr nc pL pG pB pk pa pt pm ++ SBB G sh z2_3) := hD
            refine lv_pop hx hb dX2_writes_37 rfl ?_
            have hzn : SBh z2_3 (txN nc pL (i + 1)) := (by simp only [txN]; first | (rw [if_pos (by omega)]; exact hw34) | (rw [if_neg (by omega), List.append_nil]; exact hw34))
            refine lv_iinc (v := nI (i + 1)) (lv' := [(3, .int (nI (i + 1))), (0, .ref ph), (1, .ref sh), (2, .ref (pd 0))]) hx hb dX2_writes_38 hl (k := 0) rfl (nI_add _ _) (by decide) rfl (fun ls hl => ?_)
            refine lv_goto (tgt := 2) hx hb dX2_writes_41 (by decide) ?_
            refine W.widen (k := (4 * (i + 1))) (n := (980 * (i + 1))) (by show ((4 * i) + 2) ≤ (4 * (i + 1)); omega) (by show ((980 * i) + 490) ≤ (980 * (i + 1)); omega) ?_
            exact ih2 (i + 1) z2_3 (by omega) (by omega) hzn _ _ _ hP hD hS (lv_sub hl [0, 1, 2, 3] rfl)
          · skip
            refine lv_aload_n hx hb dX2_writes_23 rfl (lv_at hl 2 rfl) ?_
            refine lv_bipush (v := nI 47) hx hb dX2_writes_24 (by decide) ?_
            refine callVr (As := [.int (nI 47)]) (rest := []) (wc := (SBB G sh z)) (wr := (PW G ph pd nr nc pL pG pB pk pa pt pm)) ⟨hx, hb, hml, hown, hts⟩ (m_J3_append_3 l G sh z (txN nc pL i) 47 (by first | assumption | omega) (by omega) (by decide)) (cwV 1 hts (lw_V q970 q971 q972 q94 q973) rfl rfl rfl (by decide +kernel) ⟨Nat.le_of_ble_eq_true rfl, Nat.le_of_ble_eq_true rfl⟩) hK hZ hA hP hD hS [6, 7] [0, 1, 2, 3, 4, 5] rfl rfl (by decide) (by decide) (by decide) 0 9 rfl rfl rfl hl.1 (Nat.le_of_ble_eq_true rfl) ⟨by show (4 * i) + 2 ≤ 36; omega, by show (980 * i) + 490 ≤ 8820; omega⟩ rfl dX2_writes_26 (fun r9 u9 H locs hw9 hP hD hS => ?_)
            refine W.widen (k := ((4 * i) + 2)) (n := ((980 * i) + 490)) (Nat.le_refl _) (Nat.le_refl _) ?_
            obtain ⟨z2_4, e9⟩ : ∃ z, z = u9 := ⟨_, rfl⟩
            subst e9
            obtain ⟨hr9, hz26⟩ := hw9
            subst r9
            have hz26 : SBh z2_4 ((txN nc pL i) ++ [47]) := hz26
            have hP : va_P G.1 CL (PW G ph pd nr nc pL pG pB pk pa pt pm ++ SBB G sh z2_4) _ := hP
            have hD : va_D A (PW G ph pd nr nc pL pG pB pk pa pt pm ++ SBB G sh z2_4) := hD
            refine lv_pop hx hb dX2_writes_29 rfl ?_
            refine lv_aload_n hx hb dX2_writes_30 rfl (lv_at hl 2 rfl) ?_
            refine lv_aload_n hx hb dX2_writes_31 rfl (lv_at hl 3 rfl) ?_
            refine lv_iload_n hx hb dX2_writes_32 rfl (lv_at hl 0 rfl) ?_
            refine n_cald hx hb hK hP 1 2 rfl rfl (by omega) (by decide) dX2_writes_33 ?_
            refine callVr (As := [.int (nI (pL i))]) (rest := []) (wc := (SBB G sh z2_4)) (wr := (PW G ph pd nr nc pL pG pB pk pa pt pm)) ⟨hx, hb, hml, hown, hts⟩ (m_J3_append_3 l G sh z2_4 (txN nc pL i ++ [47]) (pL i) (by first | exact hz26 | exact hz9) (by first | omega | (simp; omega)) (hL _)) (cwV 1 hts (lw_V q970 q971 q972 q94 q973) rfl rfl rfl (by decide +kernel) ⟨Nat.le_of_ble_eq_true rfl, Nat.le_of_ble_eq_true rfl⟩) hK hZ hA hP hD hS [6, 7] [0, 1, 2, 3, 4, 5] rfl rfl (by decide) (by decide) (by decide) 0 9 rfl rfl rfl hl.1 (Nat.le_of_ble_eq_true rfl) ⟨by show ((4 * i) + 2) + 2 ≤ 36; omega, by show ((980 * i) + 490) + 490 ≤ 8820; omega⟩ rfl dX2_writes_34 (fun r9 u9 H locs hw9 hP hD hS => ?_)
            refine W.widen (k := (((4 * i) + 2) + 2)) (n := (((980 * i) + 490) + 490)) (Nat.le_refl _) (Nat.le_refl _) ?_
            obtain ⟨z2_5, e9⟩ : ∃ z, z = u9 := ⟨_, rfl⟩
            subst e9
            obtain ⟨hr9, hw34⟩ := hw9
            subst r9
            have hw34 : SBh z2_5 ((txN nc pL i ++ [47]) ++ [(pL i)]) := hw34
            have hP : va_P G.1 CL (PW G ph pd nr nc pL pG pB pk pa pt pm ++ SBB G sh z2_5) _ := hP
            have hD : va_D A (PW G ph pd nr nc pL pG pB pk pa pt pm ++ SBB G sh z2_5) := hD
            refine lv_pop hx hb dX2_writes_37 rfl ?_
            have hzn : SBh z2_5 (txN nc pL (i + 1)) := (by simp only [txN]; first | (rw [if_pos (by omega)]; exact hw34) | (rw [if_neg (by omega), List.append_nil]; exact hw34))
            refine lv_iinc (v := nI (i + 1)) (lv' := [(3, .int (nI (i + 1))), (0, .ref ph), (1, .ref sh), (2, .ref (pd 0))]) hx hb dX2_writes_38 hl (k := 0) rfl (nI_add _ _) (by decide) rfl (fun ls hl => ?_)
            refine lv_goto (tgt := 2) hx hb dX2_writes_41 (by decide) ?_
            refine W.widen (k := (4 * (i + 1))) (n := (980 * (i + 1))) (by show (((4 * i) + 2) + 2) ≤ (4 * (i + 1)); omega) (by show (((980 * i) + 490) + 490) ≤ (980 * (i + 1)); omega) ?_
            exact ih2 (i + 1) z2_5 (by omega) (by omega) hzn _ _ _ hP hD hS (lv_sub hl [0, 1, 2, 3] rfl)
  refine W.widen (k := (4 * 0)) (n := (980 * 0)) (by show 0 ≤ (4 * 0); omega) (by show 0 ≤ (980 * 0); omega) ?_
  exact lp2 _ 0 sz (Nat.lt_succ_self _) (by omega) hz _ _ _ hP hD hS (lv_sub hl [0, 1, 2, 3] rfl)
set_option maxHeartbeats 4000000 in
set_option maxRecDepth 100000 in
theorem m_X2_writes__K (l : Launch) (G : GG) (ph : Nat) (pd : Nat → Nat) (nr : Nat) (nc : Nat) (pL : Nat → Nat) (pG : Nat → Nat) (pB : Nat → Bool) (pk : Nat → Int32) (pa : Nat → Nat) (pt : Nat → Nat) (pm : Nat) (sh : Nat) (sz : SBZ) (hd : 2 ≤ nr ∧ nr ≤ 3 ∧ 2 ≤ nc ∧ nc ≤ 3) (hK9 : ∀ q, pG q < 65536) (hz : SBh sz []) : MM l G yX2_writes cX2_writes 4 none ⟨8, 36, 8820, 179⟩ [.ref ph, .ref sh, .ref (pd 1)] (PW G ph pd nr nc pL pG pB pk pa pt pm ++ SBB G sh sz) (Qv_ G (fun (u : (SBZ)) => SBh u (txN nc pG (nr * nc))) (fun (u : (SBZ)) => (PW G ph pd nr nc pL pG pB pk pa pt pm ++ SBB G sh u))) := by
  refine MM.of (by decide) (Nat.le_of_ble_eq_true rfl) ?_
  intro p e s m args below meth cd A C hini hA hK hZ hP hD ls hl
  generalize hQ : MQ below ((Qv_ G (fun (u : (SBZ)) => SBh u (txN nc pG (nr * nc))) (fun (u : (SBZ)) => (PW G ph pd nr nc pL pG pB pk pa pt pm ++ SBB G sh u))) A) args s (⟨8, 36, 8820, 179⟩ : Room).cells (⟨8, 36, 8820, 179⟩ : Room).slots A = Q
  obtain ⟨hx, hb, hr, hts, hown, hlk, hml⟩ := C
  have hown : s.vm.findClass RX2 = some m.cls := hown
  have hS : va_S A s.heap s.heap [] := va_S.rf
  have hl : lv_has ls 4 [(0, .ref ph), (1, .ref sh), (2, .ref (pd 1))] := hl
  have hmu := dm_mul hd
  refine lv_iconst (v := nI 0) hx hb dX2_writes_0 (by decide) ?_
  refine lv_istore_n (lv' := [(3, .int (nI 0)), (0, .ref ph), (1, .ref sh), (2, .ref (pd 1))]) hx hb dX2_writes_1 rfl hl (by decide) rfl (fun ls hl => ?_)
  have lp2 : ∀ (f : Nat) (i : Nat) (z : SBZ), nr * nc - i < f → (i ≤ nr * nc) → (SBh z (txN nc pG i)) → ∀ (H : Heap) (locs : List Loc) (ls : Array Slot), va_P G.1 CL (PW G ph pd nr nc pL pG pB pk pa pt pm ++ SBB G sh z) H → va_D A (PW G ph pd nr nc pL pG pB pk pa pt pm ++ SBB G sh z) → va_S A s.heap H locs → lv_has ls 4 [(3, .int (nI i)), (0, .ref ph), (1, .ref sh), (2, .ref (pd 1))] → W p l e (⟨8, 36, 8820, 179⟩ : Room) s m args below meth cd H locs (4 * i) (980 * i) Q (F0 m 2 ls []) := by
    intro f
    induction f with
    | zero => intro i z hf; exact absurd hf (Nat.not_lt_zero _)
    | succ f ih2 =>
      intro i z hf hi hz9 H locs ls hP hD hS hl
      have hln := txN_len nc pG i
      refine lv_iload_n hx hb dX2_writes_2 rfl (lv_at hl 0 rfl) ?_
      refine lv_aload_n hx hb dX2_writes_3 rfl (lv_at hl 1 rfl) ?_
      refine callVi (As := []) (rest := [.int (nI i)]) (wc := (PW G ph pd nr nc pL pG pB pk pa pt pm)) (wr := (SBB G sh z)) ⟨hx, hb, hml, hown, hts⟩ (m_X2_places l G ph pd nr nc pL pG pB pk pa pt pm ) (cwV 0 hts (lw_V q474 q475 q476 q89 q477) rfl rfl rfl (by decide +kernel) ⟨Nat.le_of_ble_eq_true rfl, Nat.le_of_ble_eq_true rfl⟩) hK hZ hA hP hD hS [0, 1, 2, 3, 4, 5] [6, 7] rfl rfl (by decide) (by decide) (by decide) 0 1 rfl rfl rfl hl.1 (Nat.le_of_ble_eq_true rfl) ⟨by show (4 * i) + 0 ≤ 36; omega, by show (980 * i) + 0 ≤ 8820; omega⟩ rfl dX2_writes_4 (fun r9 u9 H locs hw9 hP hD hS => ?_)
      subst hw9
      obtain ⟨hP, hD⟩ := re_PD (w := (PW G ph pd nr nc pL pG pB pk pa pt pm ++ SBB G sh z)) hP hD [2, 3, 4, 5, 6, 7, 0, 1] (by decide) rfl
      refine n_cmp_ge (tgt := 44) hx hb dX2_writes_7 (by decide) (by omega) (by omega) (fun c7 => ?_) (fun c7 => ?_)
      · skip
        subst hQ
        refine W.widen (k := 36) (n := 8820) (by show (4 * i) ≤ 36; omega) (by show (980 * i) ≤ 8820; omega) ?_
        exact ret_v hx hb hr hlk z (by rw [show nr * nc = i by omega]; exact hz9) hP hD hS dX2_writes_44
      · skip
        refine lv_iload_n hx hb dX2_writes_10 rfl (lv_at hl 0 rfl) ?_
        refine n_if_le (tgt := 30) hx hb dX2_writes_11 (by decide) (by omega) (fun c11 => ?_) (fun c11 => ?_)
        · skip
          refine lv_aload_n hx hb dX2_writes_30 rfl (lv_at hl 2 rfl) ?_
          refine lv_aload_n hx hb dX2_writes_31 rfl (lv_at hl 3 rfl) ?_
          refine lv_iload_n hx hb dX2_writes_32 rfl (lv_at hl 0 rfl) ?_
          refine n_cald hx hb hK hP 2 2 rfl rfl (by omega) (by decide) dX2_writes_33 ?_
          refine callVr (As := [.int (nI (pG i))]) (rest := []) (wc := (SBB G sh z)) (wr := (PW G ph pd nr nc pL pG pB pk pa pt pm)) ⟨hx, hb, hml, hown, hts⟩ (m_J3_append_3 l G sh z (txN nc pG i) (pG i) (by first | exact hz26 | exact hz9) (by first | omega | (simp; omega)) (hK9 _)) (cwV 1 hts (lw_V q970 q971 q972 q94 q973) rfl rfl rfl (by decide +kernel) ⟨Nat.le_of_ble_eq_true rfl, Nat.le_of_ble_eq_true rfl⟩) hK hZ hA hP hD hS [6, 7] [0, 1, 2, 3, 4, 5] rfl rfl (by decide) (by decide) (by decide) 0 9 rfl rfl rfl hl.1 (Nat.le_of_ble_eq_true rfl) ⟨by show (4 * i) + 2 ≤ 36; omega, by show (980 * i) + 490 ≤ 8820; omega⟩ rfl dX2_writes_34 (fun r9 u9 H locs hw9 hP hD hS => ?_)
          refine W.widen (k := ((4 * i) + 2)) (n := ((980 * i) + 490)) (Nat.le_refl _) (Nat.le_refl _) ?_
          obtain ⟨z2_2, e9⟩ : ∃ z, z = u9 := ⟨_, rfl⟩
          subst e9
          obtain ⟨hr9, hw34⟩ := hw9
          subst r9
          have hw34 : SBh z2_2 ((txN nc pG i) ++ [(pG i)]) := hw34
          have hP : va_P G.1 CL (PW G ph pd nr nc pL pG pB pk pa pt pm ++ SBB G sh z2_2) _ := hP
          have hD : va_D A (PW G ph pd nr nc pL pG pB pk pa pt pm ++ SBB G sh z2_2) := hD
          refine lv_pop hx hb dX2_writes_37 rfl ?_
          have hzn : SBh z2_2 (txN nc pG (i + 1)) := (by simp only [txN]; first | (rw [if_pos (by omega)]; exact hw34) | (rw [if_neg (by omega), List.append_nil]; exact hw34))
          refine lv_iinc (v := nI (i + 1)) (lv' := [(3, .int (nI (i + 1))), (0, .ref ph), (1, .ref sh), (2, .ref (pd 1))]) hx hb dX2_writes_38 hl (k := 0) rfl (nI_add _ _) (by decide) rfl (fun ls hl => ?_)
          refine lv_goto (tgt := 2) hx hb dX2_writes_41 (by decide) ?_
          refine W.widen (k := (4 * (i + 1))) (n := (980 * (i + 1))) (by show ((4 * i) + 2) ≤ (4 * (i + 1)); omega) (by show ((980 * i) + 490) ≤ (980 * (i + 1)); omega) ?_
          exact ih2 (i + 1) z2_2 (by omega) (by omega) hzn _ _ _ hP hD hS (lv_sub hl [0, 1, 2, 3] rfl)
        · skip
          refine lv_iload_n hx hb dX2_writes_14 rfl (lv_at hl 0 rfl) ?_
          refine lv_aload_n hx hb dX2_writes_15 rfl (lv_at hl 1 rfl) ?_
          refine va_get (D := G.1) (ci := 1) (v := .int (nI nc)) (C := RX2) (T := TX2) (N := 14) hx hb hts in_X2 hown hK hP 0 rfl rfl 1 (by decide) (hts _ q143) (fun _ h9 => h9) rfl dX2_writes_16 ?_
          refine n_irem hx hb (by omega) (by omega) (by omega) dX2_writes_19 ?_
          refine n_if_ne (tgt := 30) hx hb dX2_writes_20 (by decide) (by have := Nat.mod_lt i (show 0 < nc by omega); omega) (fun c20 => ?_) (fun c20 => ?_)
          · skip
            refine lv_aload_n hx hb dX2_writes_30 rfl (lv_at hl 2 rfl) ?_
            refine lv_aload_n hx hb dX2_writes_31 rfl (lv_at hl 3 rfl) ?_
            refine lv_iload_n hx hb dX2_writes_32 rfl (lv_at hl 0 rfl) ?_
            refine n_cald hx hb hK hP 2 2 rfl rfl (by omega) (by decide) dX2_writes_33 ?_
            refine callVr (As := [.int (nI (pG i))]) (rest := []) (wc := (SBB G sh z)) (wr := (PW G ph pd nr nc pL pG pB pk pa pt pm)) ⟨hx, hb, hml, hown, hts⟩ (m_J3_append_3 l G sh z (txN nc pG i) (pG i) (by first | exact hz26 | exact hz9) (by first | omega | (simp; omega)) (hK9 _)) (cwV 1 hts (lw_V q970 q971 q972 q94 q973) rfl rfl rfl (by decide +kernel) ⟨Nat.le_of_ble_eq_true rfl, Nat.le_of_ble_eq_true rfl⟩) hK hZ hA hP hD hS [6, 7] [0, 1, 2, 3, 4, 5] rfl rfl (by decide) (by decide) (by decide) 0 9 rfl rfl rfl hl.1 (Nat.le_of_ble_eq_true rfl) ⟨by show (4 * i) + 2 ≤ 36; omega, by show (980 * i) + 490 ≤ 8820; omega⟩ rfl dX2_writes_34 (fun r9 u9 H locs hw9 hP hD hS => ?_)
            refine W.widen (k := ((4 * i) + 2)) (n := ((980 * i) + 490)) (Nat.le_refl _) (Nat.le_refl _) ?_
            obtain ⟨z2_3, e9⟩ : ∃ z, z = u9 := ⟨_, rfl⟩
            subst e9
            obtain ⟨hr9, hw34⟩ := hw9
            subst r9
            have hw34 : SBh z2_3 ((txN nc pG i) ++ [(pG i)]) := hw34
            have hP : va_P G.1 CL (PW G ph pd nr nc pL pG pB pk pa pt pm ++ SBB G sh z2_3) _ := hP
            have hD : va_D A (PW G ph pd nr nc pL pG pB pk pa pt pm ++ SBB G sh z2_3) := hD
            refine lv_pop hx hb dX2_writes_37 rfl ?_
            have hzn : SBh z2_3 (txN nc pG (i + 1)) := (by simp only [txN]; first | (rw [if_pos (by omega)]; exact hw34) | (rw [if_neg (by omega), List.append_nil]; exact hw34))
            refine lv_iinc (v := nI (i + 1)) (lv' := [(3, .int (nI (i + 1))), (0, .ref ph), (1, .ref sh), (2, .ref (pd 1))]) hx hb dX2_writes_38 hl (k := 0) rfl (nI_add _ _) (by decide) rfl (fun ls hl => ?_)
            refine lv_goto (tgt := 2) hx hb dX2_writes_41 (by decide) ?_
            refine W.widen (k := (4 * (i + 1))) (n := (980 * (i + 1))) (by show ((4 * i) + 2) ≤ (4 * (i + 1)); omega) (by show ((980 * i) + 490) ≤ (980 * (i + 1)); omega) ?_
            exact ih2 (i + 1) z2_3 (by omega) (by omega) hzn _ _ _ hP hD hS (lv_sub hl [0, 1, 2, 3] rfl)
          · skip
            refine lv_aload_n hx hb dX2_writes_23 rfl (lv_at hl 2 rfl) ?_
            refine lv_bipush (v := nI 47) hx hb dX2_writes_24 (by decide) ?_
            refine callVr (As := [.int (nI 47)]) (rest := []) (wc := (SBB G sh z)) (wr := (PW G ph pd nr nc pL pG pB pk pa pt pm)) ⟨hx, hb, hml, hown, hts⟩ (m_J3_append_3 l G sh z (txN nc pG i) 47 (by first | assumption | omega) (by omega) (by decide)) (cwV 1 hts (lw_V q970 q971 q972 q94 q973) rfl rfl rfl (by decide +kernel) ⟨Nat.le_of_ble_eq_true rfl, Nat.le_of_ble_eq_true rfl⟩) hK hZ hA hP hD hS [6, 7] [0, 1, 2, 3, 4, 5] rfl rfl (by decide) (by decide) (by decide) 0 9 rfl rfl rfl hl.1 (Nat.le_of_ble_eq_true rfl) ⟨by show (4 * i) + 2 ≤ 36; omega, by show (980 * i) + 490 ≤ 8820; omega⟩ rfl dX2_writes_26 (fun r9 u9 H locs hw9 hP hD hS => ?_)
            refine W.widen (k := ((4 * i) + 2)) (n := ((980 * i) + 490)) (Nat.le_refl _) (Nat.le_refl _) ?_
            obtain ⟨z2_4, e9⟩ : ∃ z, z = u9 := ⟨_, rfl⟩
            subst e9
            obtain ⟨hr9, hz26⟩ := hw9
            subst r9
            have hz26 : SBh z2_4 ((txN nc pG i) ++ [47]) := hz26
            have hP : va_P G.1 CL (PW G ph pd nr nc pL pG pB pk pa pt pm ++ SBB G sh z2_4) _ := hP
            have hD : va_D A (PW G ph pd nr nc pL pG pB pk pa pt pm ++ SBB G sh z2_4) := hD
            refine lv_pop hx hb dX2_writes_29 rfl ?_
            refine lv_aload_n hx hb dX2_writes_30 rfl (lv_at hl 2 rfl) ?_
            refine lv_aload_n hx hb dX2_writes_31 rfl (lv_at hl 3 rfl) ?_
            refine lv_iload_n hx hb dX2_writes_32 rfl (lv_at hl 0 rfl) ?_
            refine n_cald hx hb hK hP 2 2 rfl rfl (by omega) (by decide) dX2_writes_33 ?_
            refine callVr (As := [.int (nI (pG i))]) (rest := []) (wc := (SBB G sh z2_4)) (wr := (PW G ph pd nr nc pL pG pB pk pa pt pm)) ⟨hx, hb, hml, hown, hts⟩ (m_J3_append_3 l G sh z2_4 (txN nc pG i ++ [47]) (pG i) (by first | exact hz26 | exact hz9) (by first | omega | (simp; omega)) (hK9 _)) (cwV 1 hts (lw_V q970 q971 q972 q94 q973) rfl rfl rfl (by decide +kernel) ⟨Nat.le_of_ble_eq_true rfl, Nat.le_of_ble_eq_true rfl⟩) hK hZ hA hP hD hS [6, 7] [0, 1, 2, 3, 4, 5] rfl rfl (by decide) (by decide) (by decide) 0 9 rfl rfl rfl hl.1 (Nat.le_of_ble_eq_true rfl) ⟨by show ((4 * i) + 2) + 2 ≤ 36; omega, by show ((980 * i) + 490) + 490 ≤ 8820; omega⟩ rfl dX2_writes_34 (fun r9 u9 H locs hw9 hP hD hS => ?_)
            refine W.widen (k := (((4 * i) + 2) + 2)) (n := (((980 * i) + 490) + 490)) (Nat.le_refl _) (Nat.le_refl _) ?_
            obtain ⟨z2_5, e9⟩ : ∃ z, z = u9 := ⟨_, rfl⟩
            subst e9
            obtain ⟨hr9, hw34⟩ := hw9
            subst r9
            have hw34 : SBh z2_5 ((txN nc pG i ++ [47]) ++ [(pG i)]) := hw34
            have hP : va_P G.1 CL (PW G ph pd nr nc pL pG pB pk pa pt pm ++ SBB G sh z2_5) _ := hP
            have hD : va_D A (PW G ph pd nr nc pL pG pB pk pa pt pm ++ SBB G sh z2_5) := hD
            refine lv_pop hx hb dX2_writes_37 rfl ?_
            have hzn : SBh z2_5 (txN nc pG (i + 1)) := (by simp only [txN]; first | (rw [if_pos (by omega)]; exact hw34) | (rw [if_neg (by omega), List.append_nil]; exact hw34))
            refine lv_iinc (v := nI (i + 1)) (lv' := [(3, .int (nI (i + 1))), (0, .ref ph), (1, .ref sh), (2, .ref (pd 1))]) hx hb dX2_writes_38 hl (k := 0) rfl (nI_add _ _) (by decide) rfl (fun ls hl => ?_)
            refine lv_goto (tgt := 2) hx hb dX2_writes_41 (by decide) ?_
            refine W.widen (k := (4 * (i + 1))) (n := (980 * (i + 1))) (by show (((4 * i) + 2) + 2) ≤ (4 * (i + 1)); omega) (by show (((980 * i) + 490) + 490) ≤ (980 * (i + 1)); omega) ?_
            exact ih2 (i + 1) z2_5 (by omega) (by omega) hzn _ _ _ hP hD hS (lv_sub hl [0, 1, 2, 3] rfl)
  refine W.widen (k := (4 * 0)) (n := (980 * 0)) (by show 0 ≤ (4 * 0); omega) (by show 0 ≤ (980 * 0); omega) ?_
  exact lp2 _ 0 sz (Nat.lt_succ_self _) (by omega) hz _ _ _ hP hD hS (lv_sub hl [0, 1, 2, 3] rfl)
set_option maxHeartbeats 4000000 in
set_option maxRecDepth 100000 in
theorem m_X2_writesLine (l : Launch) (G : GG) (ph : Nat) (pd : Nat → Nat) (nr : Nat) (nc : Nat) (pL : Nat → Nat) (pG : Nat → Nat) (pB : Nat → Bool) (pk : Nat → Int32) (pa : Nat → Nat) (pt : Nat → Nat) (pm : Nat) (sh : Nat) (sz : SBZ) (ll : Nat) (hd : 2 ≤ nr ∧ nr ≤ 3 ∧ 2 ≤ nc ∧ nc ≤ 3) (hln : ll < nr + nc) (hL : ∀ i, pL i < 65536) (hz : SBh sz []) : MM l G yX2_writesLine cX2_writesLine 4 none ⟨8, 10, 2450, 179⟩ [.ref ph, .ref sh, .int (nI ll)] (PW G ph pd nr nc pL pG pB pk pa pt pm ++ SBB G sh sz) (Qv_ G (fun (u : (SBZ)) => SBh u (lineX nr nc pL pB ll)) (fun (u : (SBZ)) => (PW G ph pd nr nc pL pG pB pk pa pt pm ++ SBB G sh u))) := by
  refine MM.of (by decide) (Nat.le_of_ble_eq_true rfl) ?_
  intro p e s m args below meth cd A C hini hA hK hZ hP hD ls hl
  generalize hQ : MQ below ((Qv_ G (fun (u : (SBZ)) => SBh u (lineX nr nc pL pB ll)) (fun (u : (SBZ)) => (PW G ph pd nr nc pL pG pB pk pa pt pm ++ SBB G sh u))) A) args s (⟨8, 10, 2450, 179⟩ : Room).cells (⟨8, 10, 2450, 179⟩ : Room).slots A = Q
  obtain ⟨hx, hb, hr, hts, hown, hlk, hml⟩ := C
  have hown : s.vm.findClass RX2 = some m.cls := hown
  have hS : va_S A s.heap s.heap [] := va_S.rf
  have hl : lv_has ls 4 [(0, .ref ph), (1, .ref sh), (2, .int (nI ll))] := hl
  have hmu := dm_mul hd
  have hsz := szOf_lt (line := ll) hd
  refine lv_aload_n hx hb dX2_writesLine_0 rfl (lv_at hl 0 rfl) ?_
  refine va_get (D := G.1) (ci := 1) (v := .ref (pd 2)) (C := RX2) (T := TX2) (N := 14) hx hb hts in_X2 hown hK hP 0 rfl rfl 4 (by decide) (hts _ q149) (fun _ h9 => h9) rfl dX2_writesLine_1 ?_
  refine lv_iload_n hx hb dX2_writesLine_4 rfl (lv_at hl 2 rfl) ?_
  refine b_zald hx hb hK hP 3 0 rfl rfl (by omega) (by decide) dX2_writesLine_5 ?_
  refine b_if_eq (tgt := 16) hx hb dX2_writesLine_6 (by decide) (fun c6 => ?_) (fun c6 => ?_)
  · skip
    refine lv_iconst (v := nI 0) hx hb dX2_writesLine_16 (by decide) ?_
    refine lv_istore_n (lv' := [(3, .int (nI 0)), (0, .ref ph), (1, .ref sh), (2, .int (nI ll))]) hx hb dX2_writesLine_17 rfl hl (by decide) rfl (fun ls hl => ?_)
    have lp18 : ∀ (f : Nat) (i : Nat) (z : SBZ), szOf nr nc ll - i < f → (i ≤ szOf nr nc ll) → (SBh z ((if pB ll = true then [35] else []) ++ lsN (fun k => pL (plOn nr nc ll k)) i)) → ∀ (H : Heap) (locs : List Loc) (ls : Array Slot), va_P G.1 CL (PW G ph pd nr nc pL pG pB pk pa pt pm ++ SBB G sh z) H → va_D A (PW G ph pd nr nc pL pG pB pk pa pt pm ++ SBB G sh z) → va_S A s.heap H locs → lv_has ls 4 [(3, .int (nI i)), (0, .ref ph), (1, .ref sh), (2, .int (nI ll))] → W p l e (⟨8, 10, 2450, 179⟩ : Room) s m args below meth cd H locs (2 + 2 * i) (490 + 490 * i) Q (F0 m 18 ls []) := by
      intro f
      induction f with
      | zero => intro i z hf; exact absurd hf (Nat.not_lt_zero _)
      | succ f ih18 =>
        intro i z hf hi hz9 H locs ls hP hD hS hl
        have hlL : ((if pB ll = true then [35] else []) ++ lsN (fun k => pL (plOn nr nc ll k)) i).length ≤ i + 1 := (by rw [List.length_append, lsN_len]; split <;> simp <;> omega)
        refine lv_iload_n hx hb dX2_writesLine_18 rfl (lv_at hl 0 rfl) ?_
        refine lv_aload_n hx hb dX2_writesLine_19 rfl (lv_at hl 1 rfl) ?_
        refine lv_iload_n hx hb dX2_writesLine_20 rfl (lv_at hl 3 rfl) ?_
        refine callVi (As := [.int (nI ll)]) (rest := [.int (nI i)]) (wc := (PW G ph pd nr nc pL pG pB pk pa pt pm)) (wr := (SBB G sh z)) ⟨hx, hb, hml, hown, hts⟩ (m_X2_sizeOf l G ph pd nr nc pL pG pB pk pa pt pm ll (by first | assumption | omega) (by first | assumption | omega)) (cwV 1 hts (lw_V q580 q581 q582 q89 q583) rfl rfl rfl (by decide +kernel) ⟨Nat.le_of_ble_eq_true rfl, Nat.le_of_ble_eq_true rfl⟩) hK hZ hA hP hD hS [0, 1, 2, 3, 4, 5] [6, 7] rfl rfl (by decide) (by decide) (by decide) 0 1 rfl rfl rfl hl.1 (Nat.le_of_ble_eq_true rfl) ⟨by show (2 + 2 * i) + 0 ≤ 10; omega, by show (490 + 490 * i) + 0 ≤ 2450; omega⟩ rfl dX2_writesLine_21 (fun r9 u9 H locs hw9 hP hD hS => ?_)
        subst hw9
        obtain ⟨hP, hD⟩ := re_PD (w := (PW G ph pd nr nc pL pG pB pk pa pt pm ++ SBB G sh z)) hP hD [2, 3, 4, 5, 6, 7, 0, 1] (by decide) rfl
        refine n_cmp_ge (tgt := 49) hx hb dX2_writesLine_24 (by decide) (by omega) (by omega) (fun c24 => ?_) (fun c24 => ?_)
        · skip
          refine lv_aload_n hx hb dX2_writesLine_49 rfl (lv_at hl 1 rfl) ?_
          refine lv_iload_n hx hb dX2_writesLine_50 rfl (lv_at hl 3 rfl) ?_
          refine callVi (As := [.int (nI ll)]) (rest := []) (wc := (PW G ph pd nr nc pL pG pB pk pa pt pm)) (wr := (SBB G sh z)) ⟨hx, hb, hml, hown, hts⟩ (m_X2_sings l G ph pd nr nc pL pG pB pk pa pt pm ll (by first | assumption | omega) (by first | assumption | omega) (by first | assumption | omega)) (cwV 1 hts (lw_V q1507 q577 q578 q89 q579) rfl rfl rfl (by decide +kernel) ⟨Nat.le_of_ble_eq_true rfl, Nat.le_of_ble_eq_true rfl⟩) hK hZ hA hP hD hS [0, 1, 2, 3, 4, 5] [6, 7] rfl rfl (by decide) (by decide) (by decide) 0 1 rfl rfl rfl hl.1 (Nat.le_of_ble_eq_true rfl) ⟨by show (2 + 2 * i) + 0 ≤ 10; omega, by show (490 + 490 * i) + 0 ≤ 2450; omega⟩ rfl dX2_writesLine_51 (fun r9 u9 H locs hw9 hP hD hS => ?_)
          subst hw9
          obtain ⟨hP, hD⟩ := re_PD (w := (PW G ph pd nr nc pL pG pB pk pa pt pm ++ SBB G sh z)) hP hD [2, 3, 4, 5, 6, 7, 0, 1] (by decide) rfl
          refine b_if_eq (tgt := 64) hx hb dX2_writesLine_54 (by decide) (fun c54 => ?_) (fun c54 => ?_)
          · skip
            subst hQ
            refine W.widen (k := 10) (n := 2450) (by show (2 + 2 * i) ≤ 10; omega) (by show (490 + 490 * i) ≤ 2450; omega) ?_
            exact ret_v hx hb hr hlk z (by unfold lineX; rw [if_neg (c := snN nr nc pL ll = true) (by simp [c54]), List.append_nil, show szOf nr nc ll = i by omega]; exact hz9) hP hD hS dX2_writesLine_64
          · skip
            refine lv_aload_n hx hb dX2_writesLine_57 rfl (lv_at hl 2 rfl) ?_
            refine lv_bipush (v := nI 33) hx hb dX2_writesLine_58 (by decide) ?_
            refine callVr (As := [.int (nI 33)]) (rest := []) (wc := (SBB G sh z)) (wr := (PW G ph pd nr nc pL pG pB pk pa pt pm)) ⟨hx, hb, hml, hown, hts⟩ (m_J3_append_3 l G sh z ((if pB ll = true then [35] else []) ++ lsN (fun k => pL (plOn nr nc ll k)) i) 33 hz9 (by omega) (by decide)) (cwV 1 hts (lw_V q970 q971 q972 q94 q973) rfl rfl rfl (by decide +kernel) ⟨Nat.le_of_ble_eq_true rfl, Nat.le_of_ble_eq_true rfl⟩) hK hZ hA hP hD hS [6, 7] [0, 1, 2, 3, 4, 5] rfl rfl (by decide) (by decide) (by decide) 0 9 rfl rfl rfl hl.1 (Nat.le_of_ble_eq_true rfl) ⟨by show (2 + 2 * i) + 2 ≤ 10; omega, by show (490 + 490 * i) + 490 ≤ 2450; omega⟩ rfl dX2_writesLine_60 (fun r9 u9 H locs hw9 hP hD hS => ?_)
            refine W.widen (k := ((2 + 2 * i) + 2)) (n := ((490 + 490 * i) + 490)) (Nat.le_refl _) (Nat.le_refl _) ?_
            obtain ⟨z2_3, e9⟩ : ∃ z, z = u9 := ⟨_, rfl⟩
            subst e9
            obtain ⟨hr9, hw60⟩ := hw9
            subst r9
            have hw60 : SBh z2_3 (((if pB ll = true then [35] else []) ++ lsN (fun k => pL (plOn nr nc ll k)) i) ++ [33]) := hw60
            have hP : va_P G.1 CL (PW G ph pd nr nc pL pG pB pk pa pt pm ++ SBB G sh z2_3) _ := hP
            have hD : va_D A (PW G ph pd nr nc pL pG pB pk pa pt pm ++ SBB G sh z2_3) := hD
            refine lv_pop hx hb dX2_writesLine_63 rfl ?_
            subst hQ
            refine W.widen (k := 10) (n := 2450) (by show ((2 + 2 * i) + 2) ≤ 10; omega) (by show ((490 + 490 * i) + 490) ≤ 2450; omega) ?_
            exact ret_v hx hb hr hlk z2_3 (by unfold lineX; rw [if_pos (c := snN nr nc pL ll = true) c54, show szOf nr nc ll = i by omega]; exact hw60) hP hD hS dX2_writesLine_64
        · skip
          refine lv_aload_n hx hb dX2_writesLine_27 rfl (lv_at hl 2 rfl) ?_
          refine lv_aload_n hx hb dX2_writesLine_28 rfl (lv_at hl 1 rfl) ?_
          refine va_get (D := G.1) (ci := 1) (v := .ref (pd 0)) (C := RX2) (T := TX2) (N := 14) hx hb hts in_X2 hown hK hP 0 rfl rfl 2 (by decide) (hts _ q145) (fun _ h9 => h9) rfl dX2_writesLine_29 ?_
          refine lv_aload_n hx hb dX2_writesLine_32 rfl (lv_at hl 1 rfl) ?_
          refine lv_iload_n hx hb dX2_writesLine_33 rfl (lv_at hl 3 rfl) ?_
          refine lv_iload_n hx hb dX2_writesLine_34 rfl (lv_at hl 0 rfl) ?_
          refine callVi (As := [.int (nI ll), .int (nI i)]) (rest := [.ref (pd 0), .ref sh]) (wc := (PW G ph pd nr nc pL pG pB pk pa pt pm)) (wr := (SBB G sh z)) ⟨hx, hb, hml, hown, hts⟩ (m_X2_placeOn l G ph pd nr nc pL pG pB pk pa pt pm ll i (by first | assumption | omega) (by first | assumption | omega)) (cwV 2 hts (lw_V q588 q589 q590 q89 q591) rfl rfl rfl (by decide +kernel) ⟨Nat.le_of_ble_eq_true rfl, Nat.le_of_ble_eq_true rfl⟩) hK hZ hA hP hD hS [0, 1, 2, 3, 4, 5] [6, 7] rfl rfl (by decide) (by decide) (by decide) 0 1 rfl rfl rfl hl.1 (Nat.le_of_ble_eq_true rfl) ⟨by show (2 + 2 * i) + 0 ≤ 10; omega, by show (490 + 490 * i) + 0 ≤ 2450; omega⟩ rfl dX2_writesLine_35 (fun r9 u9 H locs hw9 hP hD hS => ?_)
          subst hw9
          obtain ⟨hP, hD⟩ := re_PD (w := (PW G ph pd nr nc pL pG pB pk pa pt pm ++ SBB G sh z)) hP hD [2, 3, 4, 5, 6, 7, 0, 1] (by decide) rfl
          refine n_cald hx hb hK hP 1 2 rfl rfl (plOn_lt hd hln (by omega)).2 (by decide) dX2_writesLine_38 ?_
          refine callVr (As := [.int (nI (pL (plOn nr nc ll i)))]) (rest := []) (wc := (SBB G sh z)) (wr := (PW G ph pd nr nc pL pG pB pk pa pt pm)) ⟨hx, hb, hml, hown, hts⟩ (m_J3_append_3 l G sh z ((if pB ll = true then [35] else []) ++ lsN (fun k => pL (plOn nr nc ll k)) i) (pL (plOn nr nc ll i)) hz9 (by omega) (hL _)) (cwV 1 hts (lw_V q970 q971 q972 q94 q973) rfl rfl rfl (by decide +kernel) ⟨Nat.le_of_ble_eq_true rfl, Nat.le_of_ble_eq_true rfl⟩) hK hZ hA hP hD hS [6, 7] [0, 1, 2, 3, 4, 5] rfl rfl (by decide) (by decide) (by decide) 0 9 rfl rfl rfl hl.1 (Nat.le_of_ble_eq_true rfl) ⟨by show (2 + 2 * i) + 2 ≤ 10; omega, by show (490 + 490 * i) + 490 ≤ 2450; omega⟩ rfl dX2_writesLine_39 (fun r9 u9 H locs hw9 hP hD hS => ?_)
          refine W.widen (k := ((2 + 2 * i) + 2)) (n := ((490 + 490 * i) + 490)) (Nat.le_refl _) (Nat.le_refl _) ?_
          obtain ⟨z2_5, e9⟩ : ∃ z, z = u9 := ⟨_, rfl⟩
          subst e9
          obtain ⟨hr9, hw39⟩ := hw9
          subst r9
          have hw39 : SBh z2_5 (((if pB ll = true then [35] else []) ++ lsN (fun k => pL (plOn nr nc ll k)) i) ++ [(pL (plOn nr nc ll i))]) := hw39
          have hP : va_P G.1 CL (PW G ph pd nr nc pL pG pB pk pa pt pm ++ SBB G sh z2_5) _ := hP
          have hD : va_D A (PW G ph pd nr nc pL pG pB pk pa pt pm ++ SBB G sh z2_5) := hD
          refine lv_pop hx hb dX2_writesLine_42 rfl ?_
          refine lv_iinc (v := nI (i + 1)) (lv' := [(3, .int (nI (i + 1))), (0, .ref ph), (1, .ref sh), (2, .int (nI ll))]) hx hb dX2_writesLine_43 hl (k := 0) rfl (nI_add _ _) (by decide) rfl (fun ls hl => ?_)
          refine lv_goto (tgt := 18) hx hb dX2_writesLine_46 (by decide) ?_
          refine W.widen (k := (2 + 2 * (i + 1))) (n := (490 + 490 * (i + 1))) (by show ((2 + 2 * i) + 2) ≤ (2 + 2 * (i + 1)); omega) (by show ((490 + 490 * i) + 490) ≤ (490 + 490 * (i + 1)); omega) ?_
          exact ih18 (i + 1) z2_5 (by omega) (by omega) (by simp only [lsN]; rw [← List.append_assoc]; exact hw39) _ _ _ hP hD hS (lv_sub hl [0, 1, 2, 3] rfl)
    refine W.widen (k := (2 + 2 * 0)) (n := (490 + 490 * 0)) (by show 0 ≤ (2 + 2 * 0); omega) (by show 0 ≤ (490 + 490 * 0); omega) ?_
    exact lp18 _ 0 sz (Nat.lt_succ_self _) (by omega) (by first | (rw [if_pos c6]; exact hz12) | (rw [if_neg (by simp [c6])]; exact hz)) _ _ _ hP hD hS (lv_sub hl [0, 1, 2, 3] rfl)
  · skip
    refine lv_aload_n hx hb dX2_writesLine_9 rfl (lv_at hl 1 rfl) ?_
    refine lv_bipush (v := nI 35) hx hb dX2_writesLine_10 (by decide) ?_
    refine callVr (As := [.int (nI 35)]) (rest := []) (wc := (SBB G sh sz)) (wr := (PW G ph pd nr nc pL pG pB pk pa pt pm)) ⟨hx, hb, hml, hown, hts⟩ (m_J3_append_3 l G sh sz ([]) 35 (by first | assumption | omega) (by decide) (by decide)) (cwV 1 hts (lw_V q970 q971 q972 q94 q973) rfl rfl rfl (by decide +kernel) ⟨Nat.le_of_ble_eq_true rfl, Nat.le_of_ble_eq_true rfl⟩) hK hZ hA hP hD hS [6, 7] [0, 1, 2, 3, 4, 5] rfl rfl (by decide) (by decide) (by decide) 0 9 rfl rfl rfl hl.1 (Nat.le_of_ble_eq_true rfl) ⟨Nat.le_of_ble_eq_true rfl, Nat.le_of_ble_eq_true rfl⟩ rfl dX2_writesLine_12 (fun r9 u9 H locs hw9 hP hD hS => ?_)
    refine W.widen (k := 2) (n := 490) (Nat.le_refl _) (Nat.le_refl _) ?_
    obtain ⟨z2_6, e9⟩ : ∃ z, z = u9 := ⟨_, rfl⟩
    subst e9
    obtain ⟨hr9, hz12⟩ := hw9
    subst r9
    have hz12 : SBh z2_6 (([]) ++ [35]) := hz12
    have hP : va_P G.1 CL (PW G ph pd nr nc pL pG pB pk pa pt pm ++ SBB G sh z2_6) _ := hP
    have hD : va_D A (PW G ph pd nr nc pL pG pB pk pa pt pm ++ SBB G sh z2_6) := hD
    refine lv_pop hx hb dX2_writesLine_15 rfl ?_
    refine lv_iconst (v := nI 0) hx hb dX2_writesLine_16 (by decide) ?_
    refine lv_istore_n (lv' := [(3, .int (nI 0)), (0, .ref ph), (1, .ref sh), (2, .int (nI ll))]) hx hb dX2_writesLine_17 rfl hl (by decide) rfl (fun ls hl => ?_)
    have lp18 : ∀ (f : Nat) (i : Nat) (z : SBZ), szOf nr nc ll - i < f → (i ≤ szOf nr nc ll) → (SBh z ((if pB ll = true then [35] else []) ++ lsN (fun k => pL (plOn nr nc ll k)) i)) → ∀ (H : Heap) (locs : List Loc) (ls : Array Slot), va_P G.1 CL (PW G ph pd nr nc pL pG pB pk pa pt pm ++ SBB G sh z) H → va_D A (PW G ph pd nr nc pL pG pB pk pa pt pm ++ SBB G sh z) → va_S A s.heap H locs → lv_has ls 4 [(3, .int (nI i)), (0, .ref ph), (1, .ref sh), (2, .int (nI ll))] → W p l e (⟨8, 10, 2450, 179⟩ : Room) s m args below meth cd H locs (2 + 2 * i) (490 + 490 * i) Q (F0 m 18 ls []) := by
      intro f
      induction f with
      | zero => intro i z hf; exact absurd hf (Nat.not_lt_zero _)
      | succ f ih18 =>
        intro i z hf hi hz9 H locs ls hP hD hS hl
        have hlL : ((if pB ll = true then [35] else []) ++ lsN (fun k => pL (plOn nr nc ll k)) i).length ≤ i + 1 := (by rw [List.length_append, lsN_len]; split <;> simp <;> omega)
        refine lv_iload_n hx hb dX2_writesLine_18 rfl (lv_at hl 0 rfl) ?_
        refine lv_aload_n hx hb dX2_writesLine_19 rfl (lv_at hl 1 rfl) ?_
        refine lv_iload_n hx hb dX2_writesLine_20 rfl (lv_at hl 3 rfl) ?_
        refine callVi (As := [.int (nI ll)]) (rest := [.int (nI i)]) (wc := (PW G ph pd nr nc pL pG pB pk pa pt pm)) (wr := (SBB G sh z)) ⟨hx, hb, hml, hown, hts⟩ (m_X2_sizeOf l G ph pd nr nc pL pG pB pk pa pt pm ll (by first | assumption | omega) (by first | assumption | omega)) (cwV 1 hts (lw_V q580 q581 q582 q89 q583) rfl rfl rfl (by decide +kernel) ⟨Nat.le_of_ble_eq_true rfl, Nat.le_of_ble_eq_true rfl⟩) hK hZ hA hP hD hS [0, 1, 2, 3, 4, 5] [6, 7] rfl rfl (by decide) (by decide) (by decide) 0 1 rfl rfl rfl hl.1 (Nat.le_of_ble_eq_true rfl) ⟨by show (2 + 2 * i) + 0 ≤ 10; omega, by show (490 + 490 * i) + 0 ≤ 2450; omega⟩ rfl dX2_writesLine_21 (fun r9 u9 H locs hw9 hP hD hS => ?_)
        subst hw9
        obtain ⟨hP, hD⟩ := re_PD (w := (PW G ph pd nr nc pL pG pB pk pa pt pm ++ SBB G sh z)) hP hD [2, 3, 4, 5, 6, 7, 0, 1] (by decide) rfl
        refine n_cmp_ge (tgt := 49) hx hb dX2_writesLine_24 (by decide) (by omega) (by omega) (fun c24 => ?_) (fun c24 => ?_)
        · skip
          refine lv_aload_n hx hb dX2_writesLine_49 rfl (lv_at hl 1 rfl) ?_
          refine lv_iload_n hx hb dX2_writesLine_50 rfl (lv_at hl 3 rfl) ?_
          refine callVi (As := [.int (nI ll)]) (rest := []) (wc := (PW G ph pd nr nc pL pG pB pk pa pt pm)) (wr := (SBB G sh z)) ⟨hx, hb, hml, hown, hts⟩ (m_X2_sings l G ph pd nr nc pL pG pB pk pa pt pm ll (by first | assumption | omega) (by first | assumption | omega) (by first | assumption | omega)) (cwV 1 hts (lw_V q1507 q577 q578 q89 q579) rfl rfl rfl (by decide +kernel) ⟨Nat.le_of_ble_eq_true rfl, Nat.le_of_ble_eq_true rfl⟩) hK hZ hA hP hD hS [0, 1, 2, 3, 4, 5] [6, 7] rfl rfl (by decide) (by decide) (by decide) 0 1 rfl rfl rfl hl.1 (Nat.le_of_ble_eq_true rfl) ⟨by show (2 + 2 * i) + 0 ≤ 10; omega, by show (490 + 490 * i) + 0 ≤ 2450; omega⟩ rfl dX2_writesLine_51 (fun r9 u9 H locs hw9 hP hD hS => ?_)
          subst hw9
          obtain ⟨hP, hD⟩ := re_PD (w := (PW G ph pd nr nc pL pG pB pk pa pt pm ++ SBB G sh z)) hP hD [2, 3, 4, 5, 6, 7, 0, 1] (by decide) rfl
          refine b_if_eq (tgt := 64) hx hb dX2_writesLine_54 (by decide) (fun c54 => ?_) (fun c54 => ?_)
          · skip
            subst hQ
            refine W.widen (k := 10) (n := 2450) (by show (2 + 2 * i) ≤ 10; omega) (by show (490 + 490 * i) ≤ 2450; omega) ?_
            exact ret_v hx hb hr hlk z (by unfold lineX; rw [if_neg (c := snN nr nc pL ll = true) (by simp [c54]), List.append_nil, show szOf nr nc ll = i by omega]; exact hz9) hP hD hS dX2_writesLine_64
          · skip
            refine lv_aload_n hx hb dX2_writesLine_57 rfl (lv_at hl 2 rfl) ?_
            refine lv_bipush (v := nI 33) hx hb dX2_writesLine_58 (by decide) ?_
            refine callVr (As := [.int (nI 33)]) (rest := []) (wc := (SBB G sh z)) (wr := (PW G ph pd nr nc pL pG pB pk pa pt pm)) ⟨hx, hb, hml, hown, hts⟩ (m_J3_append_3 l G sh z ((if pB ll = true then [35] else []) ++ lsN (fun k => pL (plOn nr nc ll k)) i) 33 hz9 (by omega) (by decide)) (cwV 1 hts (lw_V q970 q971 q972 q94 q973) rfl rfl rfl (by decide +kernel) ⟨Nat.le_of_ble_eq_true rfl, Nat.le_of_ble_eq_true rfl⟩) hK hZ hA hP hD hS [6, 7] [0, 1, 2, 3, 4, 5] rfl rfl (by decide) (by decide) (by decide) 0 9 rfl rfl rfl hl.1 (Nat.le_of_ble_eq_true rfl) ⟨by show (2 + 2 * i) + 2 ≤ 10; omega, by show (490 + 490 * i) + 490 ≤ 2450; omega⟩ rfl dX2_writesLine_60 (fun r9 u9 H locs hw9 hP hD hS => ?_)
            refine W.widen (k := ((2 + 2 * i) + 2)) (n := ((490 + 490 * i) + 490)) (Nat.le_refl _) (Nat.le_refl _) ?_
            obtain ⟨z2_9, e9⟩ : ∃ z, z = u9 := ⟨_, rfl⟩
            subst e9
            obtain ⟨hr9, hw60⟩ := hw9
            subst r9
            have hw60 : SBh z2_9 (((if pB ll = true then [35] else []) ++ lsN (fun k => pL (plOn nr nc ll k)) i) ++ [33]) := hw60
            have hP : va_P G.1 CL (PW G ph pd nr nc pL pG pB pk pa pt pm ++ SBB G sh z2_9) _ := hP
            have hD : va_D A (PW G ph pd nr nc pL pG pB pk pa pt pm ++ SBB G sh z2_9) := hD
            refine lv_pop hx hb dX2_writesLine_63 rfl ?_
            subst hQ
            refine W.widen (k := 10) (n := 2450) (by show ((2 + 2 * i) + 2) ≤ 10; omega) (by show ((490 + 490 * i) + 490) ≤ 2450; omega) ?_
            exact ret_v hx hb hr hlk z2_9 (by unfold lineX; rw [if_pos (c := snN nr nc pL ll = true) c54, show szOf nr nc ll = i by omega]; exact hw60) hP hD hS dX2_writesLine_64
        · skip
          refine lv_aload_n hx hb dX2_writesLine_27 rfl (lv_at hl 2 rfl) ?_
          refine lv_aload_n hx hb dX2_writesLine_28 rfl (lv_at hl 1 rfl) ?_
          refine va_get (D := G.1) (ci := 1) (v := .ref (pd 0)) (C := RX2) (T := TX2) (N := 14) hx hb hts in_X2 hown hK hP 0 rfl rfl 2 (by decide) (hts _ q145) (fun _ h9 => h9) rfl dX2_writesLine_29 ?_
          refine lv_aload_n hx hb dX2_writesLine_32 rfl (lv_at hl 1 rfl) ?_
          refine lv_iload_n hx hb dX2_writesLine_33 rfl (lv_at hl 3 rfl) ?_
          refine lv_iload_n hx hb dX2_writesLine_34 rfl (lv_at hl 0 rfl) ?_
          refine callVi (As := [.int (nI ll), .int (nI i)]) (rest := [.ref (pd 0), .ref sh]) (wc := (PW G ph pd nr nc pL pG pB pk pa pt pm)) (wr := (SBB G sh z)) ⟨hx, hb, hml, hown, hts⟩ (m_X2_placeOn l G ph pd nr nc pL pG pB pk pa pt pm ll i (by first | assumption | omega) (by first | assumption | omega)) (cwV 2 hts (lw_V q588 q589 q590 q89 q591) rfl rfl rfl (by decide +kernel) ⟨Nat.le_of_ble_eq_true rfl, Nat.le_of_ble_eq_true rfl⟩) hK hZ hA hP hD hS [0, 1, 2, 3, 4, 5] [6, 7] rfl rfl (by decide) (by decide) (by decide) 0 1 rfl rfl rfl hl.1 (Nat.le_of_ble_eq_true rfl) ⟨by show (2 + 2 * i) + 0 ≤ 10; omega, by show (490 + 490 * i) + 0 ≤ 2450; omega⟩ rfl dX2_writesLine_35 (fun r9 u9 H locs hw9 hP hD hS => ?_)
          subst hw9
          obtain ⟨hP, hD⟩ := re_PD (w := (PW G ph pd nr nc pL pG pB pk pa pt pm ++ SBB G sh z)) hP hD [2, 3, 4, 5, 6, 7, 0, 1] (by decide) rfl
          refine n_cald hx hb hK hP 1 2 rfl rfl (plOn_lt hd hln (by omega)).2 (by decide) dX2_writesLine_38 ?_
          refine callVr (As := [.int (nI (pL (plOn nr nc ll i)))]) (rest := []) (wc := (SBB G sh z)) (wr := (PW G ph pd nr nc pL pG pB pk pa pt pm)) ⟨hx, hb, hml, hown, hts⟩ (m_J3_append_3 l G sh z ((if pB ll = true then [35] else []) ++ lsN (fun k => pL (plOn nr nc ll k)) i) (pL (plOn nr nc ll i)) hz9 (by omega) (hL _)) (cwV 1 hts (lw_V q970 q971 q972 q94 q973) rfl rfl rfl (by decide +kernel) ⟨Nat.le_of_ble_eq_true rfl, Nat.le_of_ble_eq_true rfl⟩) hK hZ hA hP hD hS [6, 7] [0, 1, 2, 3, 4, 5] rfl rfl (by decide) (by decide) (by decide) 0 9 rfl rfl rfl hl.1 (Nat.le_of_ble_eq_true rfl) ⟨by show (2 + 2 * i) + 2 ≤ 10; omega, by show (490 + 490 * i) + 490 ≤ 2450; omega⟩ rfl dX2_writesLine_39 (fun r9 u9 H locs hw9 hP hD hS => ?_)
          refine W.widen (k := ((2 + 2 * i) + 2)) (n := ((490 + 490 * i) + 490)) (Nat.le_refl _) (Nat.le_refl _) ?_
          obtain ⟨z2_11, e9⟩ : ∃ z, z = u9 := ⟨_, rfl⟩
          subst e9
          obtain ⟨hr9, hw39⟩ := hw9
          subst r9
          have hw39 : SBh z2_11 (((if pB ll = true then [35] else []) ++ lsN (fun k => pL (plOn nr nc ll k)) i) ++ [(pL (plOn nr nc ll i))]) := hw39
          have hP : va_P G.1 CL (PW G ph pd nr nc pL pG pB pk pa pt pm ++ SBB G sh z2_11) _ := hP
          have hD : va_D A (PW G ph pd nr nc pL pG pB pk pa pt pm ++ SBB G sh z2_11) := hD
          refine lv_pop hx hb dX2_writesLine_42 rfl ?_
          refine lv_iinc (v := nI (i + 1)) (lv' := [(3, .int (nI (i + 1))), (0, .ref ph), (1, .ref sh), (2, .int (nI ll))]) hx hb dX2_writesLine_43 hl (k := 0) rfl (nI_add _ _) (by decide) rfl (fun ls hl => ?_)
          refine lv_goto (tgt := 18) hx hb dX2_writesLine_46 (by decide) ?_
          refine W.widen (k := (2 + 2 * (i + 1))) (n := (490 + 490 * (i + 1))) (by show ((2 + 2 * i) + 2) ≤ (2 + 2 * (i + 1)); omega) (by show ((490 + 490 * i) + 490) ≤ (490 + 490 * (i + 1)); omega) ?_
          exact ih18 (i + 1) z2_11 (by omega) (by omega) (by simp only [lsN]; rw [← List.append_assoc]; exact hw39) _ _ _ hP hD hS (lv_sub hl [0, 1, 2, 3] rfl)
    refine W.widen (k := (2 + 2 * 0)) (n := (490 + 490 * 0)) (by show 2 ≤ (2 + 2 * 0); omega) (by show 490 ≤ (490 + 490 * 0); omega) ?_
    exact lp18 _ 0 z2_6 (Nat.lt_succ_self _) (by omega) (by first | (rw [if_pos c6]; exact hz12) | (rw [if_neg (by simp [c6])]; exact hz)) _ _ _ hP hD hS (lv_sub hl [0, 1, 2, 3] rfl)
