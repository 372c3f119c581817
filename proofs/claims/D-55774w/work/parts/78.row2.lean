set_option maxHeartbeats 4000000 in
set_option maxRecDepth 100000 in
theorem m_X7_before (l : Launch) (G : GG) (wh : Nat) (dh : Nat) (dz : DQZ) (mh9 : Nat) (cK : Nat) (vh : Nat) (ph : Nat) (th : Nat) (svh : Nat) (hs9 : Bool) (ah : Nat) (bh : Nat) (lh : Nat) (rh : Nat) (fa9 : Int32) (rf9 : Int32) (de9 : Int32) (pd : Nat → Nat) (nr : Nat) (nc : Nat) (pL : Nat → Nat) (pG : Nat → Nat) (pB : Nat → Bool) (pk : Nat → Int32) (pa : Nat → Nat) (pt : Nat → Nat) (pm : Nat) (t : Nat) (hd : 2 ≤ nr ∧ nr ≤ 3 ∧ 2 ≤ nc ∧ nc ≤ 3) (hL : ∀ i, pL i < 65536) (hz : DQh dz (bxs G (nr + nc))) (hIC : ICok G) (hcK : LamG G yX1_ranked 6 276 sh3 cK) (ht9 : t < nr + nc) : MM l G yX7_before cX7_before 10 (some .int) ⟨4, 1, 4, 87⟩ [.ref wh, .ref (icA G (t + 128)), .int (nI t), .ref mh9] (RWW G wh dh ++ DQB G dh dz ++ LMW G mh9 cK vh ++ VTW G vh ph th svh hs9 ah bh lh rh fa9 rf9 de9 ++ PW G ph pd nr nc pL pG pB pk pa pt pm) (Qi_ G (fun (r : Int32) (_ : Unit) => r = nI (bfN nr nc pL t)) (fun (_ : Unit) => (RWW G wh dh ++ DQB G dh dz ++ LMW G mh9 cK vh ++ VTW G vh ph th svh hs9 ah bh lh rh fa9 rf9 de9 ++ PW G ph pd nr nc pL pG pB pk pa pt pm))) := by
  refine MM.of (by decide) (Nat.le_of_ble_eq_true rfl) ?_
  intro p e s m args below meth cd A C hini hA hK hZ hP hD ls hl
  generalize hQ : MQ below ((Qi_ G (fun (r : Int32) (_ : Unit) => r = nI (bfN nr nc pL t)) (fun (_ : Unit) => (RWW G wh dh ++ DQB G dh dz ++ LMW G mh9 cK vh ++ VTW G vh ph th svh hs9 ah bh lh rh fa9 rf9 de9 ++ PW G ph pd nr nc pL pG pB pk pa pt pm))) A) args s (⟨4, 1, 4, 87⟩ : Room).cells (⟨4, 1, 4, 87⟩ : Room).slots A = Q
  obtain ⟨hx, hb, hr, hts, hown, hlk, hml⟩ := C
  have hown : s.vm.findClass RX7 = some m.cls := hown
  have hS : va_S A s.heap s.heap [] := va_S.rf
  have hl : lv_has ls 10 [(0, .ref wh), (1, .ref (icA G (t + 128))), (2, .int (nI t)), (3, .ref mh9)] := hl
  have hmu := dm_mul hd
  have hvt : vwsN nr nc pL t < 1000 := (by have := vws_le nr nc pL t; have := szOf_lt (line := t) hd; omega)
  refine lv_aload_n hx hb dX7_before_0 rfl (lv_at hl 3 rfl) ?_
  refine lv_aload_n hx hb dX7_before_1 rfl (lv_at hl 1 rfl) ?_
  refine callLV (rest := []) (wc := (VTW G vh ph th svh hs9 ah bh lh rh fa9 rf9 de9 ++ PW G ph pd nr nc pL pG pB pk pa pt pm)) (wr := (RWW G wh dh ++ DQB G dh dz ++ LMW G mh9 cK vh)) (j := (t + 128)) ok3 rfl hcK ⟨hx, hb, hml, hown, hts⟩ (m_X1_lambda_ranked_2 l G vh ph th svh hs9 ah bh lh rh fa9 rf9 de9 pd nr nc pL pG pB pk pa pt pm t (by first | assumption | omega) (by first | assumption | omega) (by first | assumption | omega) (by first | assumption | omega)) (by first | rfl | decide +kernel) (by first | rfl | decide +kernel) (by decide) (by decide +kernel) (by decide +kernel) q1481 (hts _ q88) (hts _ q1492) (va_Nw.use rfl (KS.nw hZ q1494 rfl)) (hZ.face (by decide) q1494 q1493) hK hZ hA hP hD hS [4, 5, 6, 7, 8, 9, 10] [0, 1, 2, 3] rfl rfl (by decide) (by decide) (by decide) (hts _ q1480) (hts _ qs23) 0 0 rfl rfl rfl hIC (by omega) 3 rfl (fun _ _ _ => rfl) hl.1 (Nat.le_of_ble_eq_true rfl) ⟨Nat.le_of_ble_eq_true rfl, Nat.le_of_ble_eq_true rfl⟩ (Nat.le_of_ble_eq_true rfl) (Nat.le_of_ble_eq_true rfl) dX7_before_2 (fun r9 u9 H locs hw9 hP hD hS => ?_)
  subst hw9
  have hP : va_P G.1 CL (RWW G wh dh ++ DQB G dh dz ++ LMW G mh9 cK vh ++ VTW G vh ph th svh hs9 ah bh lh rh fa9 rf9 de9 ++ PW G ph pd nr nc pL pG pB pk pa pt pm) _ := hP
  have hD : va_D A (RWW G wh dh ++ DQB G dh dz ++ LMW G mh9 cK vh ++ VTW G vh ph th svh hs9 ah bh lh rh fa9 rf9 de9 ++ PW G ph pd nr nc pL pG pB pk pa pt pm) := hD
  refine lv_istore (lv' := [(4, .int (nI (vwsN nr nc pL t))), (0, .ref wh), (1, .ref (icA G (t + 128))), (2, .int (nI t)), (3, .ref mh9)]) hx hb dX7_before_7 hl (by decide) rfl (fun ls hl => ?_)
  refine lv_iconst (v := nI 0) hx hb dX7_before_9 (by decide) ?_
  refine lv_istore (lv' := [(5, .int (nI 0)), (4, .int (nI (vwsN nr nc pL t))), (0, .ref wh), (1, .ref (icA G (t + 128))), (2, .int (nI t)), (3, .ref mh9)]) hx hb dX7_before_10 hl (by decide) rfl (fun ls hl => ?_)
  refine lv_iconst (v := nI 0) hx hb dX7_before_12 (by decide) ?_
  refine lv_istore (lv' := [(6, .int (nI 0)), (5, .int (nI 0)), (4, .int (nI (vwsN nr nc pL t))), (0, .ref wh), (1, .ref (icA G (t + 128))), (2, .int (nI t)), (3, .ref mh9)]) hx hb dX7_before_13 hl (by decide) rfl (fun ls hl => ?_)
  refine lv_aload_n hx hb dX7_before_15 rfl (lv_at hl 3 rfl) ?_
  refine va_get (D := G.1) (ci := 6) (v := .ref dh) (C := RX7) (T := TX7) (N := 1) hx hb hts in_X7 hown hK hP 0 rfl rfl 0 (by decide) (hts _ q536) (fun _ h9 => h9) rfl dX7_before_16 ?_
  refine callVr (As := []) (rest := []) (wc := (DQB G dh dz)) (wr := (RWW G wh dh ++ LMW G mh9 cK vh ++ VTW G vh ph th svh hs9 ah bh lh rh fa9 rf9 de9 ++ PW G ph pd nr nc pL pG pB pk pa pt pm)) ⟨hx, hb, hml, hown, hts⟩ (m_J1_iterator l G dh dz (bxs G (nr + nc)) (by first | assumption | omega)) (cwV 0 hts (lw_V q599 q600 q601 q92 q602) rfl rfl rfl (by decide +kernel) ⟨Nat.le_of_ble_eq_true rfl, Nat.le_of_ble_eq_true rfl⟩) hK hZ hA hP hD hS [1, 2] [0, 3, 4, 5, 6, 7, 8, 9, 10] rfl rfl (by decide) (by decide) (by decide) 0 8 rfl rfl rfl hl.1 (Nat.le_of_ble_eq_true rfl) ⟨Nat.le_of_ble_eq_true rfl, Nat.le_of_ble_eq_true rfl⟩ rfl dX7_before_19 (fun r9 u9 H locs hw9 hP hD hS => ?_)
  refine W.widen (k := 1) (n := 4) (Nat.le_refl _) (Nat.le_refl _) ?_
  obtain ⟨r_2, e8⟩ : ∃ z, z = r9 := ⟨_, rfl⟩
  subst e8
  obtain ⟨hP, hD⟩ := re_PD (w := (RWW G wh dh ++ DQB G dh dz ++ LMW G mh9 cK vh ++ VTW G vh ph th svh hs9 ah bh lh rh fa9 rf9 de9 ++ PW G ph pd nr nc pL pG pB pk pa pt pm ++ ITW G r_2 dh ((dz.2.1 + 0) % 17) ((bxs G (nr + nc)).length - 0) (-1))) hP hD [0, 9, 10, 1, 2, 3, 4, 5, 6, 7, 8, 11] (by decide) rfl
  refine lv_astore (lv' := [(7, .ref r_2), (6, .int (nI 0)), (5, .int (nI 0)), (4, .int (nI (vwsN nr nc pL t))), (0, .ref wh), (1, .ref (icA G (t + 128))), (2, .int (nI t)), (3, .ref mh9)]) hx hb dX7_before_22 hl (by decide) rfl (fun ls hl => ?_)
  have lp24 : ∀ (f : Nat) (i : Nat) (n : Nat) (la : Int32), nr + nc - i < f → (i ≤ nr + nc) → (n = cn (fun o => decide (vwsN nr nc pL t < vwsN nr nc pL o ∨ (vwsN nr nc pL o = vwsN nr nc pL t ∧ o < t))) i) → ∀ (H : Heap) (locs : List Loc) (ls : Array Slot), va_P G.1 CL (RWW G wh dh ++ DQB G dh dz ++ LMW G mh9 cK vh ++ VTW G vh ph th svh hs9 ah bh lh rh fa9 rf9 de9 ++ PW G ph pd nr nc pL pG pB pk pa pt pm ++ ITW G r_2 dh ((dz.2.1 + i) % 17) ((bxs G (nr + nc)).length - i) la) H → va_D A (RWW G wh dh ++ DQB G dh dz ++ LMW G mh9 cK vh ++ VTW G vh ph th svh hs9 ah bh lh rh fa9 rf9 de9 ++ PW G ph pd nr nc pL pG pB pk pa pt pm ++ ITW G r_2 dh ((dz.2.1 + i) % 17) ((bxs G (nr + nc)).length - i) la) → va_S A s.heap H locs → lv_has ls 10 [(0, .ref wh), (1, .ref (icA G (t + 128))), (2, .int (nI t)), (3, .ref mh9), (4, .int (nI (vwsN nr nc pL t))), (7, .ref r_2), (5, .int (nI n)), (6, .int (nI i))] → W p l e (⟨4, 1, 4, 87⟩ : Room) s m args below meth cd H locs 1 4 Q (F0 m 24 ls []) := by
    intro f
    induction f with
    | zero => intro i n la hf; exact absurd hf (Nat.not_lt_zero _)
    | succ f ih24 =>
      intro i n la hf hi8 hn H locs ls hP hD hS hl
      refine lv_aload hx hb dX7_before_24 (lv_at hl 5 rfl) ?_
      refine callFi (As := []) (rest := []) (wc := (ITW G r_2 dh ((dz.2.1 + i) % 17) ((bxs G (nr + nc)).length - i) la)) (wr := (RWW G wh dh ++ DQB G dh dz ++ LMW G mh9 cK vh ++ VTW G vh ph th svh hs9 ah bh lh rh fa9 rf9 de9 ++ PW G ph pd nr nc pL pG pB pk pa pt pm)) ⟨hx, hb, hml, hown, hts⟩ (m_J19_hasNext l G r_2 dh ((dz.2.1 + i) % 17) ((bxs G (nr + nc)).length - i) la (by rw [bxs_len]; omega)) (va_cwF 0 hts (lw_F q630 q634 q636 q116 q638) rfl rfl rfl (hZ.fw (by decide) q632 q631 q637 q635 q633) (by decide +kernel) ⟨Nat.le_of_ble_eq_true rfl, Nat.le_of_ble_eq_true rfl⟩) hK hZ hA hP hD hS [11] [0, 1, 2, 3, 4, 5, 6, 7, 8, 9, 10] rfl rfl (by decide) (by decide) (by decide) 0 10 rfl rfl rfl hl.1 (Nat.le_of_ble_eq_true rfl) ⟨Nat.le_of_ble_eq_true rfl, Nat.le_of_ble_eq_true rfl⟩ rfl dX7_before_26 (fun r9 u9 H locs hw9 hP hD hS => ?_)
      subst hw9
      have hP : va_P G.1 CL (RWW G wh dh ++ DQB G dh dz ++ LMW G mh9 cK vh ++ VTW G vh ph th svh hs9 ah bh lh rh fa9 rf9 de9 ++ PW G ph pd nr nc pL pG pB pk pa pt pm ++ ITW G r_2 dh ((dz.2.1 + i) % 17) ((bxs G (nr + nc)).length - i) la) _ := hP
      have hD : va_D A (RWW G wh dh ++ DQB G dh dz ++ LMW G mh9 cK vh ++ VTW G vh ph th svh hs9 ah bh lh rh fa9 rf9 de9 ++ PW G ph pd nr nc pL pG pB pk pa pt pm ++ ITW G r_2 dh ((dz.2.1 + i) % 17) ((bxs G (nr + nc)).length - i) la) := hD
      refine b_if_eq (tgt := 88) hx hb dX7_before_31 (by decide) (fun c31 => ?_) (fun c31 => ?_)
      · skip
        refine lv_iload hx hb dX7_before_88 (lv_at hl 6 rfl) ?_
        obtain ⟨hP, hD⟩ := re_PD (w := (RWW G wh dh ++ DQB G dh dz ++ LMW G mh9 cK vh ++ VTW G vh ph th svh hs9 ah bh lh rh fa9 rf9 de9 ++ PW G ph pd nr nc pL pG pB pk pa pt pm)) hP hD [0, 1, 2, 3, 4, 5, 6, 7, 8, 9, 10] (by decide) rfl
        subst hQ
        exact ret_i hx hb hr hlk () (by rw [hn, bfN, show i = nr + nc by (have h := of_decide_eq_false c31; rw [bxs_len] at h; omega)]) hP hD hS rfl dX7_before_90
      · skip
        have hi9 : i < nr + nc := by have h := of_decide_eq_true c31; rw [bxs_len] at h; omega
        have hvi : vwsN nr nc pL i < 1000 := (by have := vws_le nr nc pL i; have := szOf_lt (line := i) hd; omega)
        refine lv_aload hx hb dX7_before_34 (lv_at hl 5 rfl) ?_
        refine callFr (As := []) (rest := []) (wc := (ITW G r_2 dh ((dz.2.1 + i) % 17) ((bxs G (nr + nc)).length - i) la ++ DQB G dh dz)) (wr := (RWW G wh dh ++ LMW G mh9 cK vh ++ VTW G vh ph th svh hs9 ah bh lh rh fa9 rf9 de9 ++ PW G ph pd nr nc pL pG pB pk pa pt pm)) ⟨hx, hb, hml, hown, hts⟩ (m_J19_next l G r_2 dh la dz (bxs G (nr + nc)) i (by first | assumption | omega) (by rw [bxs_len]; exact hi9)) (va_cwF 0 hts (lw_F q640 q643 q645 q116 q647) rfl rfl rfl (hZ.fw (by decide) q642 q641 q646 q644 q633) (by decide +kernel) ⟨Nat.le_of_ble_eq_true rfl, Nat.le_of_ble_eq_true rfl⟩) hK hZ hA hP hD hS [11, 1, 2] [0, 3, 4, 5, 6, 7, 8, 9, 10] rfl rfl (by decide) (by decide) (by decide) 0 10 rfl rfl rfl hl.1 (Nat.le_of_ble_eq_true rfl) ⟨Nat.le_of_ble_eq_true rfl, Nat.le_of_ble_eq_true rfl⟩ rfl dX7_before_36 (fun r9 u9 H locs hw9 hP hD hS => ?_)
        obtain ⟨la2_4, e9⟩ : ∃ z, z = u9 := ⟨_, rfl⟩
        subst e9
        subst hw9
        obtain ⟨hP, hD⟩ := re_PD (w := (RWW G wh dh ++ DQB G dh dz ++ LMW G mh9 cK vh ++ VTW G vh ph th svh hs9 ah bh lh rh fa9 rf9 de9 ++ PW G ph pd nr nc pL pG pB pk pa pt pm ++ ITW G r_2 dh ((dz.2.1 + (i + 1)) % 17) ((bxs G (nr + nc)).length - (i + 1)) la2_4)) hP hD [0, 10, 11, 1, 2, 3, 4, 5, 6, 7, 8, 9] (by decide) rfl
        refine eq_r (y := (icA G (i + 128))) (bxs_get G hi9) ?_
        refine lv_astore (lv' := [(8, .ref (icA G (i + 128))), (0, .ref wh), (1, .ref (icA G (t + 128))), (2, .int (nI t)), (3, .ref mh9), (4, .int (nI (vwsN nr nc pL t))), (7, .ref r_2), (5, .int (nI n)), (6, .int (nI i))]) hx hb dX7_before_41 hl (by decide) rfl (fun ls hl => ?_)
        refine lv_aload_n hx hb dX7_before_43 rfl (lv_at hl 4 rfl) ?_
        refine lv_aload hx hb dX7_before_44 (lv_at hl 0 rfl) ?_
        refine callLV (rest := []) (wc := (VTW G vh ph th svh hs9 ah bh lh rh fa9 rf9 de9 ++ PW G ph pd nr nc pL pG pB pk pa pt pm)) (wr := (RWW G wh dh ++ DQB G dh dz ++ LMW G mh9 cK vh ++ ITW G r_2 dh ((dz.2.1 + (i + 1)) % 17) ((bxs G (nr + nc)).length - (i + 1)) la2_4)) (j := (i + 128)) ok3 rfl hcK ⟨hx, hb, hml, hown, hts⟩ (m_X1_lambda_ranked_2 l G vh ph th svh hs9 ah bh lh rh fa9 rf9 de9 pd nr nc pL pG pB pk pa pt pm i (by first | assumption | omega) (by first | assumption | omega) (by first | assumption | omega) (by first | assumption | omega)) (by first | rfl | decide +kernel) (by first | rfl | decide +kernel) (by decide) (by decide +kernel) (by decide +kernel) q1481 (hts _ q88) (hts _ q1492) (va_Nw.use rfl (KS.nw hZ q1494 rfl)) (hZ.face (by decide) q1494 q1493) hK hZ hA hP hD hS [4, 5, 6, 7, 8, 9, 10] [0, 1, 2, 3, 11] rfl rfl (by decide) (by decide) (by decide) (hts _ q1480) (hts _ qs23) 0 0 rfl rfl rfl hIC (by omega) 3 rfl (fun _ _ _ => rfl) hl.1 (Nat.le_of_ble_eq_true rfl) ⟨Nat.le_of_ble_eq_true rfl, Nat.le_of_ble_eq_true rfl⟩ (Nat.le_of_ble_eq_true rfl) (Nat.le_of_ble_eq_true rfl) dX7_before_46 (fun r9 u9 H locs hw9 hP hD hS => ?_)
        subst hw9
        obtain ⟨hP, hD⟩ := re_PD (w := (RWW G wh dh ++ DQB G dh dz ++ LMW G mh9 cK vh ++ VTW G vh ph th svh hs9 ah bh lh rh fa9 rf9 de9 ++ PW G ph pd nr nc pL pG pB pk pa pt pm ++ ITW G r_2 dh ((dz.2.1 + (i + 1)) % 17) ((bxs G (nr + nc)).length - (i + 1)) la2_4)) hP hD [0, 1, 2, 3, 5, 6, 7, 8, 9, 10, 11, 4] (by decide) rfl
        refine lv_iload hx hb dX7_before_51 (lv_at hl 5 rfl) ?_
        refine lv_isub hx hb dX7_before_53 ?_
        refine lv_istore (lv' := [(9, .int ((nI (vwsN nr nc pL i)) - (nI (vwsN nr nc pL t)))), (8, .ref (icA G (i + 128))), (0, .ref wh), (1, .ref (icA G (t + 128))), (2, .int (nI t)), (3, .ref mh9), (4, .int (nI (vwsN nr nc pL t))), (7, .ref r_2), (5, .int (nI n)), (6, .int (nI i))]) hx hb dX7_before_54 hl (by decide) rfl (fun ls hl => ?_)
        refine lv_iload hx hb dX7_before_56 (lv_at hl 8 rfl) ?_
        refine lv_iload hx hb dX7_before_58 (lv_at hl 0 rfl) ?_
        refine lv_if_gt (tgt := 74) hx hb dX7_before_60 (by decide) (fun c60 => ?_) (fun c60 => ?_)
        · skip
          refine lv_iconst (v := nI 1) hx hb dX7_before_74 (by decide) ?_
          refine lv_goto (tgt := 79) hx hb dX7_before_75 (by decide) ?_
          refine n_iadd hx hb dX7_before_79 ?_
          refine lv_istore (lv' := [(5, .int (nI (n + 1))), (9, .int ((nI (vwsN nr nc pL i)) - (nI (vwsN nr nc pL t)))), (8, .ref (icA G (i + 128))), (0, .ref wh), (1, .ref (icA G (t + 128))), (2, .int (nI t)), (3, .ref mh9), (4, .int (nI (vwsN nr nc pL t))), (7, .ref r_2), (6, .int (nI i))]) hx hb dX7_before_80 hl (by decide) rfl (fun ls hl => ?_)
          refine lv_iinc (v := nI (i + 1)) (lv' := [(6, .int (nI (i + 1))), (5, .int (nI (n + 1))), (9, .int ((nI (vwsN nr nc pL i)) - (nI (vwsN nr nc pL t)))), (8, .ref (icA G (i + 128))), (0, .ref wh), (1, .ref (icA G (t + 128))), (2, .int (nI t)), (3, .ref mh9), (4, .int (nI (vwsN nr nc pL t))), (7, .ref r_2)]) hx hb dX7_before_82 hl (k := 9) rfl (nI_add _ _) (by decide) rfl (fun ls hl => ?_)
          refine lv_goto (tgt := 24) hx hb dX7_before_85 (by decide) ?_
          exact ih24 (i + 1) (n + 1) la2_4 (by omega) (by omega) (by rw [hn]; exact cn_t (P := (fun o => decide (vwsN nr nc pL t < vwsN nr nc pL o ∨ (vwsN nr nc pL o = vwsN nr nc pL t ∧ o < t)))) (decide_eq_true (by first | exact Or.inl ((sb_gt hvi hvt).mp c60) | exact Or.inr ⟨(sb_eq hvi hvt).mp c65, c71⟩))) _ _ _ hP hD hS (lv_sub hl [4, 5, 6, 7, 8, 9, 1, 0] rfl)
        · skip
          refine lv_iload hx hb dX7_before_63 (lv_at hl 0 rfl) ?_
          refine lv_if_ne (tgt := 78) hx hb dX7_before_65 (by decide) (fun c65 => ?_) (fun c65 => ?_)
          · skip
            refine lv_iconst (v := nI 0) hx hb dX7_before_78 (by decide) ?_
            refine n_iadd hx hb dX7_before_79 ?_
            refine lv_istore (lv' := [(5, .int (nI (n + 0))), (9, .int ((nI (vwsN nr nc pL i)) - (nI (vwsN nr nc pL t)))), (8, .ref (icA G (i + 128))), (0, .ref wh), (1, .ref (icA G (t + 128))), (2, .int (nI t)), (3, .ref mh9), (4, .int (nI (vwsN nr nc pL t))), (7, .ref r_2), (6, .int (nI i))]) hx hb dX7_before_80 hl (by decide) rfl (fun ls hl => ?_)
            refine lv_iinc (v := nI (i + 1)) (lv' := [(6, .int (nI (i + 1))), (5, .int (nI (n + 0))), (9, .int ((nI (vwsN nr nc pL i)) - (nI (vwsN nr nc pL t)))), (8, .ref (icA G (i + 128))), (0, .ref wh), (1, .ref (icA G (t + 128))), (2, .int (nI t)), (3, .ref mh9), (4, .int (nI (vwsN nr nc pL t))), (7, .ref r_2)]) hx hb dX7_before_82 hl (k := 9) rfl (nI_add _ _) (by decide) rfl (fun ls hl => ?_)
            refine lv_goto (tgt := 24) hx hb dX7_before_85 (by decide) ?_
            exact ih24 (i + 1) (n + 0) la2_4 (by omega) (by omega) (by rw [hn]; exact cn_f (P := (fun o => decide (vwsN nr nc pL t < vwsN nr nc pL o ∨ (vwsN nr nc pL o = vwsN nr nc pL t ∧ o < t)))) (decide_eq_false (by have h1 : ¬ vwsN nr nc pL t < vwsN nr nc pL i := fun z => c60 ((sb_gt hvi hvt).mpr z); first | (have h2 : ¬ vwsN nr nc pL i = vwsN nr nc pL t := fun z => c65 ((sb_eq hvi hvt).mpr z); omega) | omega))) _ _ _ hP hD hS (lv_sub hl [4, 5, 6, 7, 8, 9, 1, 0] rfl)
          · skip
            refine lv_iload hx hb dX7_before_68 (lv_at hl 9 rfl) ?_
            refine lv_iload_n hx hb dX7_before_70 rfl (lv_at hl 4 rfl) ?_
            refine n_cmp_ge (tgt := 78) hx hb dX7_before_71 (by decide) (by omega) (by omega) (fun c71 => ?_) (fun c71 => ?_)
            · skip
              refine lv_iconst (v := nI 0) hx hb dX7_before_78 (by decide) ?_
              refine n_iadd hx hb dX7_before_79 ?_
              refine lv_istore (lv' := [(5, .int (nI (n + 0))), (9, .int ((nI (vwsN nr nc pL i)) - (nI (vwsN nr nc pL t)))), (8, .ref (icA G (i + 128))), (0, .ref wh), (1, .ref (icA G (t + 128))), (2, .int (nI t)), (3, .ref mh9), (4, .int (nI (vwsN nr nc pL t))), (7, .ref r_2), (6, .int (nI i))]) hx hb dX7_before_80 hl (by decide) rfl (fun ls hl => ?_)
              refine lv_iinc (v := nI (i + 1)) (lv' := [(6, .int (nI (i + 1))), (5, .int (nI (n + 0))), (9, .int ((nI (vwsN nr nc pL i)) - (nI (vwsN nr nc pL t)))), (8, .ref (icA G (i + 128))), (0, .ref wh), (1, .ref (icA G (t + 128))), (2, .int (nI t)), (3, .ref mh9), (4, .int (nI (vwsN nr nc pL t))), (7, .ref r_2)]) hx hb dX7_before_82 hl (k := 9) rfl (nI_add _ _) (by decide) rfl (fun ls hl => ?_)
              refine lv_goto (tgt := 24) hx hb dX7_before_85 (by decide) ?_
              exact ih24 (i + 1) (n + 0) la2_4 (by omega) (by omega) (by rw [hn]; exact cn_f (P := (fun o => decide (vwsN nr nc pL t < vwsN nr nc pL o ∨ (vwsN nr nc pL o = vwsN nr nc pL t ∧ o < t)))) (decide_eq_false (by have h1 : ¬ vwsN nr nc pL t < vwsN nr nc pL i := fun z => c60 ((sb_gt hvi hvt).mpr z); first | (have h2 : ¬ vwsN nr nc pL i = vwsN nr nc pL t := fun z => c65 ((sb_eq hvi hvt).mpr z); omega) | omega))) _ _ _ hP hD hS (lv_sub hl [4, 5, 6, 7, 8, 9, 1, 0] rfl)
            · skip
              refine lv_iconst (v := nI 1) hx hb dX7_before_74 (by decide) ?_
              refine lv_goto (tgt := 79) hx hb dX7_before_75 (by decide) ?_
              refine n_iadd hx hb dX7_before_79 ?_
              refine lv_istore (lv' := [(5, .int (nI (n + 1))), (9, .int ((nI (vwsN nr nc pL i)) - (nI (vwsN nr nc pL t)))), (8, .ref (icA G (i + 128))), (0, .ref wh), (1, .ref (icA G (t + 128))), (2, .int (nI t)), (3, .ref mh9), (4, .int (nI (vwsN nr nc pL t))), (7, .ref r_2), (6, .int (nI i))]) hx hb dX7_before_80 hl (by decide) rfl (fun ls hl => ?_)
              refine lv_iinc (v := nI (i + 1)) (lv' := [(6, .int (nI (i + 1))), (5, .int (nI (n + 1))), (9, .int ((nI (vwsN nr nc pL i)) - (nI (vwsN nr nc pL t)))), (8, .ref (icA G (i + 128))), (0, .ref wh), (1, .ref (icA G (t + 128))), (2, .int (nI t)), (3, .ref mh9), (4, .int (nI (vwsN nr nc pL t))), (7, .ref r_2)]) hx hb dX7_before_82 hl (k := 9) rfl (nI_add _ _) (by decide) rfl (fun ls hl => ?_)
              refine lv_goto (tgt := 24) hx hb dX7_before_85 (by decide) ?_
              exact ih24 (i + 1) (n + 1) la2_4 (by omega) (by omega) (by rw [hn]; exact cn_t (P := (fun o => decide (vwsN nr nc pL t < vwsN nr nc pL o ∨ (vwsN nr nc pL o = vwsN nr nc pL t ∧ o < t)))) (decide_eq_true (by first | exact Or.inl ((sb_gt hvi hvt).mp c60) | exact Or.inr ⟨(sb_eq hvi hvt).mp c65, c71⟩))) _ _ _ hP hD hS (lv_sub hl [4, 5, 6, 7, 8, 9, 1, 0] rfl)
  exact lp24 _ 0 0 (-1) (Nat.lt_succ_self _) (by omega) rfl _ _ _ hP hD hS (lv_sub hl [4, 5, 6, 7, 3, 0, 2, 1] rfl)
set_option maxHeartbeats 4000000 in
set_option maxRecDepth 100000 in
theorem m_X7_ranked (l : Launch) (G : GG) (wh : Nat) (dh : Nat) (dz : DQZ) (mh9 : Nat) (cK : Nat) (vh : Nat) (ph : Nat) (th : Nat) (svh : Nat) (hs9 : Bool) (ah : Nat) (bh : Nat) (lh : Nat) (rh : Nat) (fa9 : Int32) (rf9 : Int32) (de9 : Int32) (pd : Nat → Nat) (nr : Nat) (nc : Nat) (pL : Nat → Nat) (pG : Nat → Nat) (pB : Nat → Bool) (pk : Nat → Int32) (pa : Nat → Nat) (pt : Nat → Nat) (pm : Nat) (pl9 : Int32) (hd : 2 ≤ nr ∧ nr ≤ 3 ∧ 2 ≤ nc ∧ nc ≤ 3) (hL : ∀ i, pL i < 65536) (hz : DQh dz (bxs G (nr + nc))) (hIC : ICok G) (hcK : LamG G yX1_ranked 6 276 sh3 cK) : MM l G yX7_ranked cX7_ranked 6 (some (.object "java/lang/Object")) ⟨5, 7, 28, 116⟩ [.ref wh, .int pl9, .ref mh9] (RWW G wh dh ++ DQB G dh dz ++ LMW G mh9 cK vh ++ VTW G vh ph th svh hs9 ah bh lh rh fa9 rf9 de9 ++ PW G ph pd nr nc pL pG pB pk pa pt pm) (Qq_ G (fun (r : Option Nat) (_ : Unit) => r = (if (rkN nr nc pL pl9) < nr + nc then some (icA G ((rkN nr nc pL pl9) + 128)) else none)) (fun (_ : Unit) => (RWW G wh dh ++ DQB G dh dz ++ LMW G mh9 cK vh ++ VTW G vh ph th svh hs9 ah bh lh rh fa9 rf9 de9 ++ PW G ph pd nr nc pL pG pB pk pa pt pm))) := by
  refine MM.of (by decide) (Nat.le_of_ble_eq_true rfl) ?_
  intro p e s m args below meth cd A C hini hA hK hZ hP hD ls hl
  generalize hQ : MQ below ((Qq_ G (fun (r : Option Nat) (_ : Unit) => r = (if (rkN nr nc pL pl9) < nr + nc then some (icA G ((rkN nr nc pL pl9) + 128)) else none)) (fun (_ : Unit) => (RWW G wh dh ++ DQB G dh dz ++ LMW G mh9 cK vh ++ VTW G vh ph th svh hs9 ah bh lh rh fa9 rf9 de9 ++ PW G ph pd nr nc pL pG pB pk pa pt pm))) A) args s (⟨5, 7, 28, 116⟩ : Room).cells (⟨5, 7, 28, 116⟩ : Room).slots A = Q
  obtain ⟨hx, hb, hr, hts, hown, hlk, hml⟩ := C
  have hown : s.vm.findClass RX7 = some m.cls := hown
  have hS : va_S A s.heap s.heap [] := va_S.rf
  have hl : lv_has ls 6 [(0, .ref wh), (1, .int pl9), (2, .ref mh9)] := hl
  have hmu := dm_mul hd
  refine lv_iconst (v := nI 0) hx hb dX7_ranked_0 (by decide) ?_
  refine lv_istore_n (lv' := [(3, .int (nI 0)), (0, .ref wh), (1, .int pl9), (2, .ref mh9)]) hx hb dX7_ranked_1 rfl hl (by decide) rfl (fun ls hl => ?_)
  refine lv_aload_n hx hb dX7_ranked_2 rfl (lv_at hl 1 rfl) ?_
  refine va_get (D := G.1) (ci := 6) (v := .ref dh) (C := RX7) (T := TX7) (N := 1) hx hb hts in_X7 hown hK hP 0 rfl rfl 0 (by decide) (hts _ q536) (fun _ h9 => h9) rfl dX7_ranked_3 ?_
  refine callVr (As := []) (rest := []) (wc := (DQB G dh dz)) (wr := (RWW G wh dh ++ LMW G mh9 cK vh ++ VTW G vh ph th svh hs9 ah bh lh rh fa9 rf9 de9 ++ PW G ph pd nr nc pL pG pB pk pa pt pm)) ⟨hx, hb, hml, hown, hts⟩ (m_J1_iterator l G dh dz (bxs G (nr + nc)) (by first | assumption | omega)) (cwV 0 hts (lw_V q599 q600 q601 q92 q602) rfl rfl rfl (by decide +kernel) ⟨Nat.le_of_ble_eq_true rfl, Nat.le_of_ble_eq_true rfl⟩) hK hZ hA hP hD hS [1, 2] [0, 3, 4, 5, 6, 7, 8, 9, 10] rfl rfl (by decide) (by decide) (by decide) 0 8 rfl rfl rfl hl.1 (Nat.le_of_ble_eq_true rfl) ⟨Nat.le_of_ble_eq_true rfl, Nat.le_of_ble_eq_true rfl⟩ rfl dX7_ranked_6 (fun r9 u9 H locs hw9 hP hD hS => ?_)
  refine W.widen (k := 1) (n := 4) (Nat.le_refl _) (Nat.le_refl _) ?_
  obtain ⟨r_1, e8⟩ : ∃ z, z = r9 := ⟨_, rfl⟩
  subst e8
  obtain ⟨hP, hD⟩ := re_PD (w := (RWW G wh dh ++ DQB G dh dz ++ LMW G mh9 cK vh ++ VTW G vh ph th svh hs9 ah bh lh rh fa9 rf9 de9 ++ PW G ph pd nr nc pL pG pB pk pa pt pm ++ ITW G r_1 dh ((dz.2.1 + 0) % 17) ((bxs G (nr + nc)).length - 0) (-1))) hP hD [0, 9, 10, 1, 2, 3, 4, 5, 6, 7, 8, 11] (by decide) rfl
  refine lv_astore (lv' := [(4, .ref r_1), (3, .int (nI 0)), (0, .ref wh), (1, .int pl9), (2, .ref mh9)]) hx hb dX7_ranked_9 hl (by decide) rfl (fun ls hl => ?_)
  have lp11 : ∀ (f : Nat) (i : Nat) (la : Int32), nr + nc - i < f → (i ≤ nr + nc) → (fx (fun l => decide (nI (bfN nr nc pL l) = pl9)) i = i) → ∀ (H : Heap) (locs : List Loc) (ls : Array Slot), va_P G.1 CL (RWW G wh dh ++ DQB G dh dz ++ LMW G mh9 cK vh ++ VTW G vh ph th svh hs9 ah bh lh rh fa9 rf9 de9 ++ PW G ph pd nr nc pL pG pB pk pa pt pm ++ ITW G r_1 dh ((dz.2.1 + i) % 17) ((bxs G (nr + nc)).length - i) la) H → va_D A (RWW G wh dh ++ DQB G dh dz ++ LMW G mh9 cK vh ++ VTW G vh ph th svh hs9 ah bh lh rh fa9 rf9 de9 ++ PW G ph pd nr nc pL pG pB pk pa pt pm ++ ITW G r_1 dh ((dz.2.1 + i) % 17) ((bxs G (nr + nc)).length - i) la) → va_S A s.heap H locs → lv_has ls 6 [(0, .ref wh), (1, .int pl9), (2, .ref mh9), (4, .ref r_1), (3, .int (nI i))] → W p l e (⟨5, 7, 28, 116⟩ : Room) s m args below meth cd H locs (1 + i) (4 + 4 * i) Q (F0 m 11 ls []) := by
    intro f
    induction f with
    | zero => intro i la hf; exact absurd hf (Nat.not_lt_zero _)
    | succ f ih11 =>
      intro i la hf hi8 hr9 H locs ls hP hD hS hl
      refine lv_aload hx hb dX7_ranked_11 (lv_at hl 3 rfl) ?_
      refine callFi (As := []) (rest := []) (wc := (ITW G r_1 dh ((dz.2.1 + i) % 17) ((bxs G (nr + nc)).length - i) la)) (wr := (RWW G wh dh ++ DQB G dh dz ++ LMW G mh9 cK vh ++ VTW G vh ph th svh hs9 ah bh lh rh fa9 rf9 de9 ++ PW G ph pd nr nc pL pG pB pk pa pt pm)) ⟨hx, hb, hml, hown, hts⟩ (m_J19_hasNext l G r_1 dh ((dz.2.1 + i) % 17) ((bxs G (nr + nc)).length - i) la (by rw [bxs_len]; omega)) (va_cwF 0 hts (lw_F q630 q634 q636 q116 q638) rfl rfl rfl (hZ.fw (by decide) q632 q631 q637 q635 q633) (by decide +kernel) ⟨Nat.le_of_ble_eq_true rfl, Nat.le_of_ble_eq_true rfl⟩) hK hZ hA hP hD hS [11] [0, 1, 2, 3, 4, 5, 6, 7, 8, 9, 10] rfl rfl (by decide) (by decide) (by decide) 0 10 rfl rfl rfl hl.1 (Nat.le_of_ble_eq_true rfl) ⟨by show (1 + i) + 0 ≤ 7; omega, by show (4 + 4 * i) + 0 ≤ 28; omega⟩ rfl dX7_ranked_13 (fun r9 u9 H locs hw9 hP hD hS => ?_)
      subst hw9
      have hP : va_P G.1 CL (RWW G wh dh ++ DQB G dh dz ++ LMW G mh9 cK vh ++ VTW G vh ph th svh hs9 ah bh lh rh fa9 rf9 de9 ++ PW G ph pd nr nc pL pG pB pk pa pt pm ++ ITW G r_1 dh ((dz.2.1 + i) % 17) ((bxs G (nr + nc)).length - i) la) _ := hP
      have hD : va_D A (RWW G wh dh ++ DQB G dh dz ++ LMW G mh9 cK vh ++ VTW G vh ph th svh hs9 ah bh lh rh fa9 rf9 de9 ++ PW G ph pd nr nc pL pG pB pk pa pt pm ++ ITW G r_1 dh ((dz.2.1 + i) % 17) ((bxs G (nr + nc)).length - i) la) := hD
      refine b_if_eq (tgt := 51) hx hb dX7_ranked_18 (by decide) (fun c18 => ?_) (fun c18 => ?_)
      · skip
        refine lv_null hx hb dX7_ranked_51 ?_
        obtain ⟨hP, hD⟩ := re_PD (w := (RWW G wh dh ++ DQB G dh dz ++ LMW G mh9 cK vh ++ VTW G vh ph th svh hs9 ah bh lh rh fa9 rf9 de9 ++ PW G ph pd nr nc pL pG pB pk pa pt pm)) hP hD [0, 1, 2, 3, 4, 5, 6, 7, 8, 9, 10] (by decide) rfl
        subst hQ
        refine W.widen (k := 7) (n := 28) (by show (1 + i) ≤ 7; omega) (by show (4 + 4 * i) ≤ 28; omega) ?_
        refine eq_v (y := va_rf none) rfl ?_
        exact ret_q hx hb hr (Or.inl ⟨_, rfl⟩) hlk () (by have hie : i = nr + nc := (by have h := of_decide_eq_false c18; rw [bxs_len] at h; omega); have hrk : (rkN nr nc pL pl9) = nr + nc := (by rw [hie] at hr9; exact hr9); rw [if_neg (by omega)]) hP hD hS dX7_ranked_52
      · skip
        have hi9 : i < nr + nc := by have h := of_decide_eq_true c18; rw [bxs_len] at h; omega
        refine lv_aload hx hb dX7_ranked_21 (lv_at hl 3 rfl) ?_
        refine callFr (As := []) (rest := []) (wc := (ITW G r_1 dh ((dz.2.1 + i) % 17) ((bxs G (nr + nc)).length - i) la ++ DQB G dh dz)) (wr := (RWW G wh dh ++ LMW G mh9 cK vh ++ VTW G vh ph th svh hs9 ah bh lh rh fa9 rf9 de9 ++ PW G ph pd nr nc pL pG pB pk pa pt pm)) ⟨hx, hb, hml, hown, hts⟩ (m_J19_next l G r_1 dh la dz (bxs G (nr + nc)) i (by first | assumption | omega) (by rw [bxs_len]; exact hi9)) (va_cwF 0 hts (lw_F q640 q643 q645 q116 q647) rfl rfl rfl (hZ.fw (by decide) q642 q641 q646 q644 q633) (by decide +kernel) ⟨Nat.le_of_ble_eq_true rfl, Nat.le_of_ble_eq_true rfl⟩) hK hZ hA hP hD hS [11, 1, 2] [0, 3, 4, 5, 6, 7, 8, 9, 10] rfl rfl (by decide) (by decide) (by decide) 0 10 rfl rfl rfl hl.1 (Nat.le_of_ble_eq_true rfl) ⟨by show (1 + i) + 0 ≤ 7; omega, by show (4 + 4 * i) + 0 ≤ 28; omega⟩ rfl dX7_ranked_23 (fun r9 u9 H locs hw9 hP hD hS => ?_)
        obtain ⟨la2_3, e9⟩ : ∃ z, z = u9 := ⟨_, rfl⟩
        subst e9
        subst hw9
        obtain ⟨hP, hD⟩ := re_PD (w := (RWW G wh dh ++ DQB G dh dz ++ LMW G mh9 cK vh ++ VTW G vh ph th svh hs9 ah bh lh rh fa9 rf9 de9 ++ PW G ph pd nr nc pL pG pB pk pa pt pm ++ ITW G r_1 dh ((dz.2.1 + (i + 1)) % 17) ((bxs G (nr + nc)).length - (i + 1)) la2_3)) hP hD [0, 10, 11, 1, 2, 3, 4, 5, 6, 7, 8, 9] (by decide) rfl
        refine eq_r (y := (icA G (i + 128))) (bxs_get G hi9) ?_
        refine lv_astore (lv' := [(5, .ref (icA G (i + 128))), (0, .ref wh), (1, .int pl9), (2, .ref mh9), (4, .ref r_1), (3, .int (nI i))]) hx hb dX7_ranked_28 hl (by decide) rfl (fun ls hl => ?_)
        refine lv_aload_n hx hb dX7_ranked_30 rfl (lv_at hl 1 rfl) ?_
        refine lv_aload hx hb dX7_ranked_31 (lv_at hl 0 rfl) ?_
        refine lv_iload_n hx hb dX7_ranked_33 rfl (lv_at hl 5 rfl) ?_
        refine lv_aload_n hx hb dX7_ranked_34 rfl (lv_at hl 3 rfl) ?_
        refine callVi (As := [.ref (icA G (i + 128)), .int (nI i), .ref mh9]) (rest := []) (wc := (RWW G wh dh ++ DQB G dh dz ++ LMW G mh9 cK vh ++ VTW G vh ph th svh hs9 ah bh lh rh fa9 rf9 de9 ++ PW G ph pd nr nc pL pG pB pk pa pt pm)) (wr := (ITW G r_1 dh ((dz.2.1 + (i + 1)) % 17) ((bxs G (nr + nc)).length - (i + 1)) la2_3)) ⟨hx, hb, hml, hown, hts⟩ (m_X7_before l G wh dh dz mh9 cK vh ph th svh hs9 ah bh lh rh fa9 rf9 de9 pd nr nc pL pG pB pk pa pt pm i (by first | assumption | omega) (by first | assumption | omega) (by first | assumption | omega) (by first | assumption | omega) (by first | assumption | omega) (by first | assumption | omega)) (cwV 3 hts (lw_V q1487 q1489 qs24 q112 q1490) rfl rfl rfl (by decide +kernel) ⟨Nat.le_of_ble_eq_true rfl, Nat.le_of_ble_eq_true rfl⟩) hK hZ hA hP hD hS [0, 1, 2, 3, 4, 5, 6, 7, 8, 9, 10] [11] rfl rfl (by decide) (by decide) (by decide) 0 6 rfl rfl rfl hl.1 (Nat.le_of_ble_eq_true rfl) ⟨by show (1 + i) + 1 ≤ 7; omega, by show (4 + 4 * i) + 4 ≤ 28; omega⟩ rfl dX7_ranked_35 (fun r9 u9 H locs hw9 hP hD hS => ?_)
        refine W.widen (k := ((1 + i) + 1)) (n := ((4 + 4 * i) + 4)) (Nat.le_refl _) (Nat.le_refl _) ?_
        subst hw9
        obtain ⟨hP, hD⟩ := re_PD (w := (RWW G wh dh ++ DQB G dh dz ++ LMW G mh9 cK vh ++ VTW G vh ph th svh hs9 ah bh lh rh fa9 rf9 de9 ++ PW G ph pd nr nc pL pG pB pk pa pt pm ++ ITW G r_1 dh ((dz.2.1 + (i + 1)) % 17) ((bxs G (nr + nc)).length - (i + 1)) la2_3)) hP hD [1, 2, 3, 4, 5, 6, 7, 8, 9, 10, 11, 0] (by decide) rfl
        refine lv_iload_n hx hb dX7_ranked_38 rfl (lv_at hl 2 rfl) ?_
        refine lv_icmp_ne (tgt := 45) hx hb dX7_ranked_39 (by decide) (fun c39 => ?_) (fun c39 => ?_)
        · skip
          refine lv_iinc (v := nI (i + 1)) (lv' := [(3, .int (nI (i + 1))), (5, .ref (icA G (i + 128))), (0, .ref wh), (1, .int pl9), (2, .ref mh9), (4, .ref r_1)]) hx hb dX7_ranked_45 hl (k := 5) rfl (nI_add _ _) (by decide) rfl (fun ls hl => ?_)
          refine lv_goto (tgt := 11) hx hb dX7_ranked_48 (by decide) ?_
          refine W.widen (k := (1 + (i + 1))) (n := (4 + 4 * (i + 1))) (by show ((1 + i) + 1) ≤ (1 + (i + 1)); omega) (by show ((4 + 4 * i) + 4) ≤ (4 + 4 * (i + 1)); omega) ?_
          exact ih11 (i + 1) la2_3 (by omega) (by omega) (fx_up hr9 (decide_eq_false c39)) _ _ _ hP hD hS (lv_sub hl [2, 3, 4, 5, 0] rfl)
        · skip
          refine lv_aload hx hb dX7_ranked_42 (lv_at hl 0 rfl) ?_
          obtain ⟨hP, hD⟩ := re_PD (w := (RWW G wh dh ++ DQB G dh dz ++ LMW G mh9 cK vh ++ VTW G vh ph th svh hs9 ah bh lh rh fa9 rf9 de9 ++ PW G ph pd nr nc pL pG pB pk pa pt pm)) hP hD [0, 1, 2, 3, 4, 5, 6, 7, 8, 9, 10] (by decide) rfl
          subst hQ
          refine W.widen (k := 7) (n := 28) (by show ((1 + i) + 1) ≤ 7; omega) (by show ((4 + 4 * i) + 4) ≤ 28; omega) ?_
          refine eq_v (y := va_rf (some (icA G (i + 128)))) rfl ?_
          exact ret_q hx hb hr (Or.inl ⟨_, rfl⟩) hlk () (by have hrk : (rkN nr nc pL pl9) = i := fx_lt (by omega) hr9 (decide_eq_true c39); rw [if_pos (by omega), hrk]) hP hD hS dX7_ranked_44
  refine W.widen (k := (1 + 0)) (n := (4 + 4 * 0)) (by show 1 ≤ (1 + 0); omega) (by show 4 ≤ (4 + 4 * 0); omega) ?_
  exact lp11 _ 0 (-1) (Nat.lt_succ_self _) (by omega) rfl _ _ _ hP hD hS (lv_sub hl [2, 3, 4, 0, 1] rfl)
set_option maxHeartbeats 4000000 in
set_option maxRecDepth 100000 in
theorem m_X1_allLines (l : Launch) (G : GG) (vh : Nat) (ph : Nat) (th : Nat) (svh : Nat) (hs9 : Bool) (ah : Nat) (bh : Nat) (lh : Nat) (rh : Nat) (fa9 : Int32) (rf9 : Int32) (de9 : Int32) (pd : Nat → Nat) (nr : Nat) (nc : Nat) (pL : Nat → Nat) (pG : Nat → Nat) (pB : Nat → Bool) (pk : Nat → Int32) (pa : Nat → Nat) (pt : Nat → Nat) (pm : Nat) (hd : 2 ≤ nr ∧ nr ≤ 3 ∧ 2 ≤ nc ∧ nc ≤ 3) (hIC : ICok G) : MM l G yX1_allLines cX1_allLines 4 (some (.object "VowelTorus$Row")) ⟨4, 3, 21, 72⟩ [.ref vh] (VTW G vh ph th svh hs9 ah bh lh rh fa9 rf9 de9 ++ PW G ph pd nr nc pL pG pB pk pa pt pm) (Qr_ G (fun (r : Nat) (u : (Nat) × (DQZ)) => DQh u.2 (bxs G (nr + nc))) (fun (r : Nat) (u : (Nat) × (DQZ)) => (VTW G vh ph th svh hs9 ah bh lh rh fa9 rf9 de9 ++ PW G ph pd nr nc pL pG pB pk pa pt pm ++ RWW G r u.1 ++ DQB G u.1 u.2))) := by
  refine MM.of (by decide) (Nat.le_of_ble_eq_true rfl) ?_
  intro p e s m args below meth cd A C hini hA hK hZ hP hD ls hl
  generalize hQ : MQ below ((Qr_ G (fun (r : Nat) (u : (Nat) × (DQZ)) => DQh u.2 (bxs G (nr + nc))) (fun (r : Nat) (u : (Nat) × (DQZ)) => (VTW G vh ph th svh hs9 ah bh lh rh fa9 rf9 de9 ++ PW G ph pd nr nc pL pG pB pk pa pt pm ++ RWW G r u.1 ++ DQB G u.1 u.2))) A) args s (⟨4, 3, 21, 72⟩ : Room).cells (⟨4, 3, 21, 72⟩ : Room).slots A = Q
  obtain ⟨hx, hb, hr, hts, hown, hlk, hml⟩ := C
  have hown : s.vm.findClass RX1 = some m.cls := hown
  have hS : va_S A s.heap s.heap [] := va_S.rf
  have hl : lv_has ls 4 [(0, .ref vh)] := hl
  have hmu := dm_mul hd
  refine va_new (own := RX1) (C := RX7) (T := TX7) (N := 1) (ci := 6) (index := 112) hx hb hts in_X7 tyX7 tyX7_ok hown (hts _ q528) (hts _ q529) (hts _ q112) hK hP hD hS hA rfl (fs := [.null]) (fun j hj => by rcases (show j = 0 by omega) with rfl <;> rfl) (Nat.le_of_ble_eq_true rfl) (Nat.le_of_ble_eq_true rfl) dX1_allLines_0 (fun q1 H hP hD hS => ?_)
  refine W.widen (k := 1) (n := 1) (Nat.le_refl _) (Nat.le_refl _) ?_
  have hP : va_P G.1 CL (VTW G vh ph th svh hs9 ah bh lh rh fa9 rf9 de9 ++ PW G ph pd nr nc pL pG pB pk pa pt pm ++ OX7W G q1 .null) _ := hP
  have hD : va_D A (VTW G vh ph th svh hs9 ah bh lh rh fa9 rf9 de9 ++ PW G ph pd nr nc pL pG pB pk pa pt pm ++ OX7W G q1 .null) := hD
  refine lv_dup hx hb dX1_allLines_3 rfl ?_
  refine callINv (As := []) (rest := [.ref q1]) (wc := (OX7W G q1 .null)) (wr := (VTW G vh ph th svh hs9 ah bh lh rh fa9 rf9 de9 ++ PW G ph pd nr nc pL pG pB pk pa pt pm)) ⟨hx, hb, hml, hown, hts⟩ (m_X7_init l G q1 ) (va_cnB 0 hts (lw_meth q532) rfl rfl rfl (KS.nw hZ q530 rfl) (hts _ q112) (by decide +kernel) ⟨Nat.le_of_ble_eq_true rfl, Nat.le_of_ble_eq_true rfl⟩) rfl (hts _ q531) hK hZ hA hP hD hS [7] [0, 1, 2, 3, 4, 5, 6] rfl rfl (by decide) (by decide) (by decide) rfl hl.1 (Nat.le_of_ble_eq_true rfl) ⟨Nat.le_of_ble_eq_true rfl, Nat.le_of_ble_eq_true rfl⟩ rfl dX1_allLines_4 (fun u9 H locs hw9 hP hD hS => ?_)
  refine W.widen (k := 3) (n := 21) (Nat.le_refl _) (Nat.le_refl _) ?_
  obtain ⟨dh2_2, dz2_2⟩ := u9
  have hz4 : DQh dz2_2 [] := hw9
  have hP : va_P G.1 CL (VTW G vh ph th svh hs9 ah bh lh rh fa9 rf9 de9 ++ PW G ph pd nr nc pL pG pB pk pa pt pm ++ RWW G q1 dh2_2 ++ DQB G dh2_2 dz2_2) _ := hP
  have hD : va_D A (VTW G vh ph th svh hs9 ah bh lh rh fa9 rf9 de9 ++ PW G ph pd nr nc pL pG pB pk pa pt pm ++ RWW G q1 dh2_2 ++ DQB G dh2_2 dz2_2) := hD
  refine lv_astore_n (lv' := [(1, .ref q1), (0, .ref vh)]) hx hb dX1_allLines_7 rfl hl (by decide) rfl (fun ls hl => ?_)
  refine lv_iconst (v := nI 0) hx hb dX1_allLines_8 (by decide) ?_
  refine lv_istore_n (lv' := [(2, .int (nI 0)), (1, .ref q1), (0, .ref vh)]) hx hb dX1_allLines_9 rfl hl (by decide) rfl (fun ls hl => ?_)
  have lp10 : ∀ (f : Nat) (k : Nat) (z9 : DQZ), nr + nc - k < f → (k ≤ nr + nc) → (DQh z9 (bxs G k)) → ∀ (H : Heap) (locs : List Loc) (ls : Array Slot), va_P G.1 CL (VTW G vh ph th svh hs9 ah bh lh rh fa9 rf9 de9 ++ PW G ph pd nr nc pL pG pB pk pa pt pm ++ RWW G q1 dh2_2 ++ DQB G dh2_2 z9) H → va_D A (VTW G vh ph th svh hs9 ah bh lh rh fa9 rf9 de9 ++ PW G ph pd nr nc pL pG pB pk pa pt pm ++ RWW G q1 dh2_2 ++ DQB G dh2_2 z9) → va_S A s.heap H locs → lv_has ls 4 [(0, .ref vh), (1, .ref q1), (2, .int (nI k))] → W p l e (⟨4, 3, 21, 72⟩ : Room) s m args below meth cd H locs 3 21 Q (F0 m 10 ls []) := by
    intro f
    induction f with
    | zero => intro k z9 hf; exact absurd hf (Nat.not_lt_zero _)
    | succ f ih10 =>
      intro k z9 hf hk9 hz9 H locs ls hP hD hS hl
      refine lv_iload_n hx hb dX1_allLines_10 rfl (lv_at hl 2 rfl) ?_
      refine lv_aload_n hx hb dX1_allLines_11 rfl (lv_at hl 0 rfl) ?_
      refine va_get (D := G.1) (ci := 0) (v := .ref ph) (C := RX1) (T := TX1) (N := 11) hx hb hts in_X1 hown hK hP 0 rfl rfl 0 (by decide) (hts _ q428) (fun _ h9 => h9) rfl dX1_allLines_12 ?_
      refine callVi (As := []) (rest := [.int (nI k)]) (wc := (PW G ph pd nr nc pL pG pB pk pa pt pm)) (wr := (VTW G vh ph th svh hs9 ah bh lh rh fa9 rf9 de9 ++ RWW G q1 dh2_2 ++ DQB G dh2_2 z9)) ⟨hx, hb, hml, hown, hts⟩ (m_X2_lines l G ph pd nr nc pL pG pB pk pa pt pm ) (cwV 0 hts (lw_V q540 q541 q542 q89 q543) rfl rfl rfl (by decide +kernel) ⟨Nat.le_of_ble_eq_true rfl, Nat.le_of_ble_eq_true rfl⟩) hK hZ hA hP hD hS [1, 2, 3, 4, 5, 6] [0, 7, 8, 9] rfl rfl (by decide) (by decide) (by decide) 0 1 rfl rfl rfl hl.1 (Nat.le_of_ble_eq_true rfl) ⟨Nat.le_of_ble_eq_true rfl, Nat.le_of_ble_eq_true rfl⟩ rfl dX1_allLines_15 (fun r9 u9 H locs hw9 hP hD hS => ?_)
      subst hw9
      obtain ⟨hP, hD⟩ := re_PD (w := (VTW G vh ph th svh hs9 ah bh lh rh fa9 rf9 de9 ++ PW G ph pd nr nc pL pG pB pk pa pt pm ++ RWW G q1 dh2_2 ++ DQB G dh2_2 z9)) hP hD [0, 4, 5, 6, 7, 8, 9, 1, 2, 3] (by decide) rfl
      refine n_cmp_ge (tgt := 36) hx hb dX1_allLines_18 (by decide) (by omega) (by omega) (fun c18 => ?_) (fun c18 => ?_)
      · skip
        refine lv_aload_n hx hb dX1_allLines_36 rfl (lv_at hl 1 rfl) ?_
        subst hQ
        exact ret_r hx hb hr (Or.inl ⟨_, rfl⟩) hlk (⟨dh2_2, z9⟩) (by have e9 : k = nr + nc := (by omega); rw [e9] at hz9; exact hz9) hP hD hS dX1_allLines_37
      · skip
        refine lv_aload_n hx hb dX1_allLines_21 rfl (lv_at hl 1 rfl) ?_
        refine lv_iload_n hx hb dX1_allLines_22 rfl (lv_at hl 2 rfl) ?_
        refine callSr (As := [.int (nI k)]) (rest := [.ref q1]) (wc := ([] : va_W)) (wr := (VTW G vh ph th svh hs9 ah bh lh rh fa9 rf9 de9 ++ PW G ph pd nr nc pL pG pB pk pa pt pm ++ RWW G q1 dh2_2 ++ DQB G dh2_2 z9)) ⟨hx, hb, hml, hown, hts⟩ (m_J18_valueOf l G k (by first | assumption | omega) (by first | assumption | omega)) (va_cwS 1 hts (lw_S q544 q545 q114 q546) rfl rfl rfl (by decide +kernel) ⟨Nat.le_of_ble_eq_true rfl, Nat.le_of_ble_eq_true rfl⟩) hK hZ hA hP hD hS [] [0, 1, 2, 3, 4, 5, 6, 7, 8, 9] rfl rfl (by decide) (by decide) (by decide) rfl hl.1 (Nat.le_of_ble_eq_true rfl) ⟨Nat.le_of_ble_eq_true rfl, Nat.le_of_ble_eq_true rfl⟩ rfl dX1_allLines_23 (fun r9 u9 H locs hw9 hP hD hS => ?_)
        subst hw9
        have hP : va_P G.1 CL (VTW G vh ph th svh hs9 ah bh lh rh fa9 rf9 de9 ++ PW G ph pd nr nc pL pG pB pk pa pt pm ++ RWW G q1 dh2_2 ++ DQB G dh2_2 z9) _ := hP
        have hD : va_D A (VTW G vh ph th svh hs9 ah bh lh rh fa9 rf9 de9 ++ PW G ph pd nr nc pL pG pB pk pa pt pm ++ RWW G q1 dh2_2 ++ DQB G dh2_2 z9) := hD
        refine callVr (As := [.ref (icA G (k + 128))]) (rest := []) (wc := (RWW G q1 dh2_2 ++ DQB G dh2_2 z9)) (wr := (VTW G vh ph th svh hs9 ah bh lh rh fa9 rf9 de9 ++ PW G ph pd nr nc pL pG pB pk pa pt pm)) ⟨hx, hb, hml, hown, hts⟩ (m_X7_with l G q1 dh2_2 z9 (bxs G k) k hz9 (by rw [bxs_len]; omega) (by first | assumption | omega) (by first | assumption | omega)) (cwV 1 hts (lw_V q564 q565 q566 q112 q567) rfl rfl rfl (by decide +kernel) ⟨Nat.le_of_ble_eq_true rfl, Nat.le_of_ble_eq_true rfl⟩) hK hZ hA hP hD hS [7, 8, 9] [0, 1, 2, 3, 4, 5, 6] rfl rfl (by decide) (by decide) (by decide) 0 6 rfl rfl rfl hl.1 (Nat.le_of_ble_eq_true rfl) ⟨Nat.le_of_ble_eq_true rfl, Nat.le_of_ble_eq_true rfl⟩ rfl dX1_allLines_26 (fun r9 u9 H locs hw9 hP hD hS => ?_)
        obtain ⟨z2_5, e9⟩ : ∃ z, z = u9 := ⟨_, rfl⟩
        subst e9
        obtain ⟨hr9, hw26⟩ := hw9
        subst r9
        have hw26 : DQh z2_5 ((bxs G k) ++ [icA G (k + 128)]) := hw26
        have hP : va_P G.1 CL (VTW G vh ph th svh hs9 ah bh lh rh fa9 rf9 de9 ++ PW G ph pd nr nc pL pG pB pk pa pt pm ++ RWW G q1 dh2_2 ++ DQB G dh2_2 z2_5) _ := hP
        have hD : va_D A (VTW G vh ph th svh hs9 ah bh lh rh fa9 rf9 de9 ++ PW G ph pd nr nc pL pG pB pk pa pt pm ++ RWW G q1 dh2_2 ++ DQB G dh2_2 z2_5) := hD
        refine lv_astore_n (lv' := [(3, .ref q1), (0, .ref vh), (1, .ref q1), (2, .int (nI k))]) hx hb dX1_allLines_29 rfl hl (by decide) rfl (fun ls hl => ?_)
        refine lv_iinc (v := nI (k + 1)) (lv' := [(2, .int (nI (k + 1))), (3, .ref q1), (0, .ref vh), (1, .ref q1)]) hx hb dX1_allLines_30 hl (k := 3) rfl (nI_add _ _) (by decide) rfl (fun ls hl => ?_)
        refine lv_goto (tgt := 10) hx hb dX1_allLines_33 (by decide) ?_
        exact ih10 (k + 1) z2_5 (by omega) (by omega) (by rw [bxs_succ]; exact hw26) _ _ _ hP hD hS (lv_sub hl [2, 3, 0] rfl)
  exact lp10 _ 0 dz2_2 (Nat.lt_succ_self _) (by omega) hz4 _ _ _ hP hD hS (lv_sub hl [2, 1, 0] rfl)
set_option maxHeartbeats 4000000 in
set_option maxRecDepth 100000 in
theorem m_X1_singing (l : Launch) (G : GG) (vh : Nat) (ph : Nat) (th : Nat) (svh : Nat) (hs9 : Bool) (ah : Nat) (bh : Nat) (lh : Nat) (rh : Nat) (fa9 : Int32) (rf9 : Int32) (de9 : Int32) (pd : Nat → Nat) (nr : Nat) (nc : Nat) (pL : Nat → Nat) (pG : Nat → Nat) (pB : Nat → Bool) (pk : Nat → Int32) (pa : Nat → Nat) (pt : Nat → Nat) (pm : Nat) (hd : 2 ≤ nr ∧ nr ≤ 3 ∧ 2 ≤ nc ∧ nc ≤ 3) (hL : ∀ i, pL i < 65536) (hIC : ICok G) : MM l G yX1_singing cX1_singing 1 (some .int) ⟨6, 5, 26, 3074⟩ [.ref vh] (VTW G vh ph th svh hs9 ah bh lh rh fa9 rf9 de9 ++ PW G ph pd nr nc pL pG pB pk pa pt pm) (Qi_ G (fun (r : Int32) (_ : Unit) => r = nI (cn (snN nr nc pL) (nr + nc))) (fun (_ : Unit) => (VTW G vh ph th svh hs9 ah bh lh rh fa9 rf9 de9 ++ PW G ph pd nr nc pL pG pB pk pa pt pm))) := by
  refine MM.ofN (by decide) (Nat.le_of_ble_eq_true rfl) ?_
  intro p e s m args below meth cd A C hnm hini hA hK hZ hP hD ls hl
  generalize hQ : MQ below ((Qi_ G (fun (r : Int32) (_ : Unit) => r = nI (cn (snN nr nc pL) (nr + nc))) (fun (_ : Unit) => (VTW G vh ph th svh hs9 ah bh lh rh fa9 rf9 de9 ++ PW G ph pd nr nc pL pG pB pk pa pt pm))) A) args s (⟨6, 5, 26, 3074⟩ : Room).cells (⟨6, 5, 26, 3074⟩ : Room).slots A = Q
  obtain ⟨hx, hb, hr, hts, hown, hlk, hml⟩ := C
  have hown : s.vm.findClass RX1 = some m.cls := hown
  have hS : va_S A s.heap s.heap [] := va_S.rf
  have hl : lv_has ls 1 [(0, .ref vh)] := hl
  refine lv_aload_n hx hb dX1_singing_0 rfl (lv_at hl 0 rfl) ?_
  refine callVr (As := []) (rest := []) (wc := (VTW G vh ph th svh hs9 ah bh lh rh fa9 rf9 de9 ++ PW G ph pd nr nc pL pG pB pk pa pt pm)) (wr := ([] : va_W)) ⟨hx, hb, hml, hown, hts⟩ (m_X1_allLines l G vh ph th svh hs9 ah bh lh rh fa9 rf9 de9 pd nr nc pL pG pB pk pa pt pm (by first | assumption | omega) (by first | assumption | omega)) (cwV 0 hts (lw_V q524 q526 qs6 q88 q527) rfl rfl rfl (by decide +kernel) ⟨Nat.le_of_ble_eq_true rfl, Nat.le_of_ble_eq_true rfl⟩) hK hZ hA hP hD hS [0, 1, 2, 3, 4, 5, 6] [] rfl rfl (by decide) (by decide) (by decide) 0 0 rfl rfl rfl hl.1 (Nat.le_of_ble_eq_true rfl) ⟨Nat.le_of_ble_eq_true rfl, Nat.le_of_ble_eq_true rfl⟩ rfl dX1_singing_1 (fun r9 u9 H locs hw9 hP hD hS => ?_)
  refine W.widen (k := 3) (n := 21) (Nat.le_refl _) (Nat.le_refl _) ?_
  obtain ⟨dh2_1, z2_1⟩ := u9
  have hw1 : DQh z2_1 (bxs G (nr + nc)) := hw9
  obtain ⟨r_1, e8⟩ : ∃ z, z = r9 := ⟨_, rfl⟩
  subst e8
  have hP : va_P G.1 CL (VTW G vh ph th svh hs9 ah bh lh rh fa9 rf9 de9 ++ PW G ph pd nr nc pL pG pB pk pa pt pm ++ RWW G r_1 dh2_1 ++ DQB G dh2_1 z2_1) _ := hP
  have hD : va_D A (VTW G vh ph th svh hs9 ah bh lh rh fa9 rf9 de9 ++ PW G ph pd nr nc pL pG pB pk pa pt pm ++ RWW G r_1 dh2_1 ++ DQB G dh2_1 z2_1) := hD
  refine lv_aload_n hx hb dX1_singing_4 rfl (lv_at hl 0 rfl) ?_
  obtain ⟨cK1, hcK1⟩ := hZ.lam (y := yX1_singing) (pc := 5) (idx := 273) (σ := sh1) (by decide +kernel) (by decide)
  refine mk_lam ok1 rfl hcK1 rfl hx hb hnm hZ hP hD hS hA (by rw [hml]; exact hl.1) (Nat.le_of_ble_eq_true rfl) (Nat.le_of_ble_eq_true rfl) (Nat.le_of_ble_eq_true rfl) dX1_singing_5 (fun q2 H hP hD hS => ?_)
  refine W.widen (k := 4) (n := 22) (Nat.le_refl _) (Nat.le_refl _) ?_
  have hP : va_P G.1 CL (VTW G vh ph th svh hs9 ah bh lh rh fa9 rf9 de9 ++ PW G ph pd nr nc pL pG pB pk pa pt pm ++ RWW G r_1 dh2_1 ++ DQB G dh2_1 z2_1 ++ LMW G q2 cK1 vh) _ := hP
  have hD : va_D A (VTW G vh ph th svh hs9 ah bh lh rh fa9 rf9 de9 ++ PW G ph pd nr nc pL pG pB pk pa pt pm ++ RWW G r_1 dh2_1 ++ DQB G dh2_1 z2_1 ++ LMW G q2 cK1 vh) := hD
  refine callVi (As := [.ref q2]) (rest := []) (wc := (RWW G r_1 dh2_1 ++ DQB G dh2_1 z2_1 ++ LMW G q2 cK1 vh ++ VTW G vh ph th svh hs9 ah bh lh rh fa9 rf9 de9 ++ PW G ph pd nr nc pL pG pB pk pa pt pm)) (wr := ([] : va_W)) ⟨hx, hb, hml, hown, hts⟩ (m_X7_count__1 l G r_1 dh2_1 z2_1 q2 cK1 vh ph th svh hs9 ah bh lh rh fa9 rf9 de9 pd nr nc pL pG pB pk pa pt pm (by first | assumption | omega) (by first | assumption | omega) hw1 (by first | assumption | omega) hcK1) (cwV 1 hts (lw_V q595 q596 q597 q112 q598) rfl rfl rfl (by decide +kernel) ⟨Nat.le_of_ble_eq_true rfl, Nat.le_of_ble_eq_true rfl⟩) hK hZ hA hP hD hS [7, 8, 9, 10, 0, 1, 2, 3, 4, 5, 6] [] rfl rfl (by decide) (by decide) (by decide) 0 6 rfl rfl rfl hl.1 (Nat.le_of_ble_eq_true rfl) ⟨Nat.le_of_ble_eq_true rfl, Nat.le_of_ble_eq_true rfl⟩ rfl dX1_singing_10 (fun r9 u9 H locs hw9 hP hD hS => ?_)
  refine W.widen (k := 5) (n := 26) (Nat.le_refl _) (Nat.le_refl _) ?_
  subst hw9
  obtain ⟨hP, hD⟩ := re_PD (w := (VTW G vh ph th svh hs9 ah bh lh rh fa9 rf9 de9 ++ PW G ph pd nr nc pL pG pB pk pa pt pm ++ RWW G r_1 dh2_1 ++ DQB G dh2_1 z2_1 ++ LMW G q2 cK1 vh)) hP hD [4, 5, 6, 7, 8, 9, 10, 0, 1, 2, 3] (by decide) rfl
  obtain ⟨hP, hD⟩ := re_PD (w := (VTW G vh ph th svh hs9 ah bh lh rh fa9 rf9 de9 ++ PW G ph pd nr nc pL pG pB pk pa pt pm)) hP hD [0, 1, 2, 3, 4, 5, 6] (by decide) rfl
  subst hQ
  exact ret_i hx hb hr hlk () rfl hP hD hS rfl dX1_singing_13
