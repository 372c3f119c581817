/-- an order's sign is one that it may have -/
def sgO (o : ORD) : Prop := (o.1 = nI 112 → decide (nI 97 ≤ o.2.2 ∧ o.2.2 ≤ nI 108) = true) ∧ (o.1 = nI 103 → (decide (nI 97 ≤ o.2.2 ∧ o.2.2 ≤ nI 108) || decide (o.2.2 = nI 46)) = true)
theorem bdL_b9 {n : Nat} (h : n ≤ 9) : bdL b9 n = b9 := by
  funext p
  unfold bdL b9
  by_cases g : p < n
  · rw [if_pos g, if_pos (by omega)]
  · rw [if_neg g]
section DOES
variable {nr nc a b x : Nat} {L K : Nat → Nat} {B : Nat → Bool} {k : Nat → Int32} {o : ORD}
theorem ord_b (J : Nat → Nat) (z : ZT) (h : o.1 = nI 98) : ordO J z o = oBoard J z o.2.1 o.2.2 := by unfold ordO; rw [if_pos h]
theorem ord_s (J : Nat → Nat) (z : ZT) (h : o.1 = nI 115) : ordO J z o = oSwap z o.2.1 o.2.2 := by unfold ordO; rw [if_neg (by rw [h]; decide), if_pos h]
theorem ord_p (J : Nat → Nat) (z : ZT) (h : o.1 = nI 112) : ordO J z o = oPut z o.2.1 o.2.2 := by unfold ordO; rw [if_neg (by rw [h]; decide), if_neg (by rw [h]; decide), if_pos h]
theorem ord_g (J : Nat → Nat) (z : ZT) (h : o.1 = nI 103) : ordO J z o = oGoal z o.2.1 o.2.2 := by unfold ordO; rw [if_neg (by rw [h]; decide), if_neg (by rw [h]; decide), if_neg (by rw [h]; decide), if_pos h]
theorem ord_t (J : Nat → Nat) (z : ZT) (h : o.1 = nI 116) : ordO J z o = oTurn z o.2.1 := by unfold ordO; rw [if_neg (by rw [h]; decide), if_neg (by rw [h]; decide), if_neg (by rw [h]; decide), if_neg (by rw [h]; decide), if_pos h]
theorem ord_x (J : Nat → Nat) (z : ZT) (h : o.1 = nI 120) : ordO J z o = oBar z o.2.1 := by unfold ordO; rw [if_neg (by rw [h]; decide), if_neg (by rw [h]; decide), if_neg (by rw [h]; decide), if_neg (by rw [h]; decide), if_neg (by rw [h]; decide), if_pos h]
theorem ord_r (J : Nat → Nat) (z : ZT) (h : o.1 = nI 114) : ordO J z o = oScr z o.2.1 o.2.2 := by unfold ordO; rw [if_neg (by rw [h]; decide), if_neg (by rw [h]; decide), if_neg (by rw [h]; decide), if_neg (by rw [h]; decide), if_neg (by rw [h]; decide), if_neg (by rw [h]; decide)]
theorem inN {lo hi n : Nat} (hn : n < 2147483648) (hh : hi < 2147483648) (hl : lo ≤ hi) (h : decide (nI lo ≤ nI n ∧ nI n ≤ nI hi) = true) : lo ≤ n ∧ n ≤ hi := by
  have h1 := of_decide_eq_true h
  exact ⟨(nI_leI (by omega) hn).mp h1.1, (nI_leI hn hh).mp h1.2⟩
theorem do_b (h : o.1 = nI 98) (ha : nI a = o.2.1) (hb : nI b = o.2.2) (hg : rgO nr nc o = true) (h1 : a < 1000) (h2 : b < 1000) : ordO b9 (nr, nc, L, K, B, k) o = (0, (a, b, b9, b9, (fun _ => false), va_up k 4 (k 4 + 1)), nI (a * b), none) := by
  rw [rg_b h, ← ha, ← hb] at hg
  have g := hg
  rw [Bool.and_eq_true] at g
  have e1 := inN (by omega) (by decide) (by decide) g.1
  have e2 := inN (by omega) (by decide) (by decide) g.2
  have e3 : a * b ≤ 3 * 3 := Nat.mul_le_mul e1.2 e2.2
  rw [ord_b _ _ h, ← ha, ← hb]
  unfold oBoard
  rw [if_pos hg, cl_n (by omega), cl_n (by omega), bdL_b9 (by omega)]
theorem do_s (h : o.1 = nI 115) (ha : nI a = o.2.1) (hb : nI b = o.2.2) (hg : rgO nr nc o = true) (h1 : a < 1000) (h2 : b < 1000) (hn : ¬ a = b) : ordO b9 (nr, nc, L, K, B, k) o = (0, (nr, nc, swL L a b, K, B, va_up k 1 (k 1 + 1)), nI (hm nr nc (swL L a b) K), none) := by
  rw [rg_s h, ← ha, ← hb] at hg
  rw [ord_s _ _ h, ← ha, ← hb]
  unfold oSwap
  rw [if_pos hg, if_neg (nI_ne (by omega) (by omega) hn), cl_n (by omega), cl_n (by omega)]
theorem do_s2 (h : o.1 = nI 115) (ha : nI a = o.2.1) (hb : nI b = o.2.2) (hg : rgO nr nc o = true) (hn : a = b) : ordO b9 (nr, nc, L, K, B, k) o = (2, (nr, nc, L, K, B, k), nI 0, some (nI 3, nI a)) := by
  rw [rg_s h, ← ha, ← hb] at hg
  rw [ord_s _ _ h, ← ha, ← hb]
  unfold oSwap
  rw [if_pos hg, if_pos (by rw [hn])]
theorem do_p (h : o.1 = nI 112) (ha : nI a = o.2.1) (hx : nI x = o.2.2) (hg : rgO nr nc o = true) (hs : sgO o) (h1 : a < 1000) (h2 : x < 65536) (hn : ¬ L a = x) : ordO b9 (nr, nc, L, K, B, k) o = (0, (nr, nc, va_up L a x, K, B, k), nI (L a), none) := by
  have g := hs.1 h
  rw [rg_p h, ← ha] at hg
  rw [← hx] at g
  rw [ord_p _ _ h, ← ha, ← hx]
  unfold oPut
  rw [if_pos hg, if_pos g, cl_n (by omega), cl_n (by omega), if_neg hn]
theorem do_p2 (h : o.1 = nI 112) (ha : nI a = o.2.1) (hx : nI x = o.2.2) (hg : rgO nr nc o = true) (hs : sgO o) (h1 : a < 1000) (h2 : x < 65536) (hn : L a = x) : ordO b9 (nr, nc, L, K, B, k) o = (3, (nr, nc, L, K, B, k), nI 0, some (nI 2, nI a)) := by
  have g := hs.1 h
  rw [rg_p h, ← ha] at hg
  rw [← hx] at g
  rw [ord_p _ _ h, ← ha, ← hx]
  unfold oPut
  rw [if_pos hg, if_pos g, cl_n (by omega), cl_n (by omega), if_pos hn]
theorem do_g (h : o.1 = nI 103) (ha : nI a = o.2.1) (hx : nI x = o.2.2) (hg : rgO nr nc o = true) (hs : sgO o) (h1 : a < 1000) (h2 : x < 65536) (hn : ¬ K a = x) : ordO b9 (nr, nc, L, K, B, k) o = (0, (nr, nc, L, va_up K a x, B, k), nI (K a), none) := by
  have g := hs.2 h
  rw [rg_g h, ← ha] at hg
  rw [← hx] at g
  rw [ord_g _ _ h, ← ha, ← hx]
  unfold oGoal
  rw [if_pos hg, if_pos g, cl_n (by omega), cl_n (by omega), if_neg hn]
theorem do_g2 (h : o.1 = nI 103) (ha : nI a = o.2.1) (hx : nI x = o.2.2) (hg : rgO nr nc o = true) (hs : sgO o) (h1 : a < 1000) (h2 : x < 65536) (hn : K a = x) : ordO b9 (nr, nc, L, K, B, k) o = (3, (nr, nc, L, K, B, k), nI 0, some (nI 2, nI a)) := by
  have g := hs.2 h
  rw [rg_g h, ← ha] at hg
  rw [← hx] at g
  rw [ord_g _ _ h, ← ha, ← hx]
  unfold oGoal
  rw [if_pos hg, if_pos g, cl_n (by omega), cl_n (by omega), if_pos hn]
theorem do_t (h : o.1 = nI 116) (ha : nI a = o.2.1) (hg : rgO nr nc o = true) (h1 : a < 1000) (hn : B (a / 2) = false) : ordO b9 (nr, nc, L, K, B, k) o = (0, (nr, nc, tn nr nc a L, K, B, turnK nr nc L K k a), nI (hm nr nc (tn nr nc a L) K), none) := by
  rw [rg_t h, ← ha] at hg
  rw [ord_t _ _ h, ← ha]
  unfold oTurn
  rw [if_pos hg, cl_n (by omega), if_neg (by show ¬ B (a / 2) = true; rw [hn]; decide)]
theorem do_t2 (h : o.1 = nI 116) (ha : nI a = o.2.1) (hg : rgO nr nc o = true) (h1 : a < 1000) (hn : B (a / 2) = true) : ordO b9 (nr, nc, L, K, B, k) o = (2, (nr, nc, L, K, B, k), nI 0, some (nI 1, nI (a / 2))) := by
  rw [rg_t h, ← ha] at hg
  rw [ord_t _ _ h, ← ha]
  unfold oTurn
  rw [if_pos hg, cl_n (by omega), if_pos hn]
theorem do_x (h : o.1 = nI 120) (ha : nI a = o.2.1) (hg : rgO nr nc o = true) (h1 : a < 1000) : ordO b9 (nr, nc, L, K, B, k) o = (0, (nr, nc, L, K, va_up B a (!B a), k), bI (!B a), none) := by
  rw [rg_x h, ← ha] at hg
  rw [ord_x _ _ h, ← ha]
  unfold oBar
  rw [if_pos hg, cl_n (by omega)]
theorem do_r (h : o.1 = nI 114) (ha : nI a = o.2.1) (hb : nI b = o.2.2) (hg : rgO nr nc o = true) (h1 : a < 1000) (h2 : b < 1000) : ordO b9 (nr, nc, L, K, B, k) o = (0, (nr, nc, scLN nr nc B a L b, K, B, va_up (va_up k 0 (k 0 + nI (scMN nr nc B a b))) 2 (k 2 + 1)), nI (scMN nr nc B a b), none) := by
  have hr := hg
  rw [rg_r (by rw [h]; decide) (by rw [h]; decide) (by rw [h]; decide) (by rw [h]; decide) (by rw [h]; decide) (by rw [h]; decide), ← ha, ← hb] at hr
  rw [ord_r _ _ h, ← ha, ← hb]
  unfold oScr
  rw [if_pos hr, cl_n (by omega), cl_n (by omega)]
theorem ix_lt {n m : Nat} (h : isIx (nI n) m = true) (hn : n < 2147483648) (hm : m < 2147483648) : n < m := by
  unfold isIx at h
  have h1 := of_decide_eq_true h
  rw [nI_toInt hn] at h1
  omega
end DOES
set_option maxHeartbeats 4000000 in
set_option maxRecDepth 100000 in
theorem m_X4_does (l : Launch) (G : GG) (rh : Nat) (rd : Nat → Nat) (sh : Nat) (at9 : Nat) (mn9 : Nat) (lt9 : Nat → Nat) (nu9 : Nat → Nat) (sg9 : Nat → Nat) (ph : Nat) (pd : Nat → Nat) (nr : Nat) (nc : Nat) (pL : Nat → Nat) (pG : Nat → Nat) (pB : Nat → Bool) (pk : Nat → Int32) (pa : Nat → Nat) (pt : Nat → Nat) (pm : Nat) (i : Nat) (o : ORD) (hd : 2 ≤ nr ∧ nr ≤ 3 ∧ 2 ≤ nc ∧ nc ≤ 3) (hi6 : i < 60) (hH : HoldR lt9 nu9 sg9 i o) (h7 : isL7 o) (hg : rgO nr nc o = true) (hsg : sgO o) (hL : ∀ i, pL i < 65536) (hG : ∀ i, pG i < 65536) (hst : l.stackTraces = false) : MX l G yX4_does cX4_does 5 (some .int) ⟨7, 1, 8, 127⟩ [.ref rh, .ref ph, .int (nI i)] (RDW G rh rd sh at9 mn9 lt9 nu9 sg9 ++ PW G ph pd nr nc pL pG pB pk pa pt pm) (Qi_ G (fun (r : Int32) (_ : Unit) => (r = (ordO b9 (nr, nc, pL, pG, pB, pk) o).2.2.1) ∧ ((ordO b9 (nr, nc, pL, pG, pB, pk) o).1 = 0)) (fun (_ : Unit) => (RDW G rh rd sh at9 mn9 lt9 nu9 sg9 ++ PW G ph pd ((ordO b9 (nr, nc, pL, pG, pB, pk) o).2.1.1) ((ordO b9 (nr, nc, pL, pG, pB, pk) o).2.1.2.1) ((ordO b9 (nr, nc, pL, pG, pB, pk) o).2.1.2.2.1) ((ordO b9 (nr, nc, pL, pG, pB, pk) o).2.1.2.2.2.1) ((ordO b9 (nr, nc, pL, pG, pB, pk) o).2.1.2.2.2.2.1) ((ordO b9 (nr, nc, pL, pG, pB, pk) o).2.1.2.2.2.2.2) pa pt pm))) (XQ G (fun (u : (Int32) × (Int32)) => RX6) (fun (u : (Int32) × (Int32)) => (¬ (ordO b9 (nr, nc, pL, pG, pB, pk) o).1 = 0) ∧ (ordO b9 (nr, nc, pL, pG, pB, pk) o).2.2.2 = some (u.1, u.2)) (fun (q9 : Nat) (u : (Int32) × (Int32)) => (RDW G rh rd sh at9 mn9 lt9 nu9 sg9 ++ PW G ph pd nr nc pL pG pB pk pa pt pm ++ RFW G q9 u.1 u.2))) := by
  refine MX.of (by decide) (Nat.le_of_ble_eq_true rfl) ?_
  intro p e s m args below meth cd A C hini hA hK hZ hP hD hnt ls hl
  generalize hQ : vx_MQ below ((Qi_ G (fun (r : Int32) (_ : Unit) => (r = (ordO b9 (nr, nc, pL, pG, pB, pk) o).2.2.1) ∧ ((ordO b9 (nr, nc, pL, pG, pB, pk) o).1 = 0)) (fun (_ : Unit) => (RDW G rh rd sh at9 mn9 lt9 nu9 sg9 ++ PW G ph pd ((ordO b9 (nr, nc, pL, pG, pB, pk) o).2.1.1) ((ordO b9 (nr, nc, pL, pG, pB, pk) o).2.1.2.1) ((ordO b9 (nr, nc, pL, pG, pB, pk) o).2.1.2.2.1) ((ordO b9 (nr, nc, pL, pG, pB, pk) o).2.1.2.2.2.1) ((ordO b9 (nr, nc, pL, pG, pB, pk) o).2.1.2.2.2.2.1) ((ordO b9 (nr, nc, pL, pG, pB, pk) o).2.1.2.2.2.2.2) pa pt pm))) A) ((XQ G (fun (u : (Int32) × (Int32)) => RX6) (fun (u : (Int32) × (Int32)) => (¬ (ordO b9 (nr, nc, pL, pG, pB, pk) o).1 = 0) ∧ (ordO b9 (nr, nc, pL, pG, pB, pk) o).2.2.2 = some (u.1, u.2)) (fun (q9 : Nat) (u : (Int32) × (Int32)) => (RDW G rh rd sh at9 mn9 lt9 nu9 sg9 ++ PW G ph pd nr nc pL pG pB pk pa pt pm ++ RFW G q9 u.1 u.2))) A) args s (⟨7, 1, 8, 127⟩ : Room).cells (⟨7, 1, 8, 127⟩ : Room).slots A = Q
  obtain ⟨hx, hb, hr, hts, hown, hlk, hml⟩ := C
  have hown : s.vm.findClass RX4 = some m.cls := hown
  have hS : va_S A s.heap s.heap [] := va_S.rf
  have hl : lv_has ls 5 [(0, .ref rh), (1, .ref ph), (2, .int (nI i))] := hl
  have hmu := dm_mul hd
  obtain ⟨g1, g2, g3, g4, g5, g6⟩ := id hH
  have g3 : nI (nu9 (2 * i + 0)) = o.2.1 := g3
  have g4 : nu9 (2 * i + 0) < 1000 := g4
  refine lv_aload_n hx hb dX4_does_0 rfl (lv_at hl 0 rfl) ?_
  refine lv_iload_n hx hb dX4_does_1 rfl (lv_at hl 2 rfl) ?_
  refine lv_iconst (v := nI 0) hx hb dX4_does_2 (by decide) ?_
  refine callVi (As := [.int (nI i), .int (nI 0)]) (rest := []) (wc := (RDW G rh rd sh at9 mn9 lt9 nu9 sg9)) (wr := (PW G ph pd nr nc pL pG pB pk pa pt pm)) ⟨hx, hb, hml, hown, hts⟩ (m_X4_told l G rh rd sh at9 mn9 lt9 nu9 sg9 i 0 (by first | assumption | omega) (by first | assumption | omega)) (cwV 2 hts (lw_V q1608 q1610 qs32 q97 q1611) rfl rfl rfl (by decide +kernel) ⟨Nat.le_of_ble_eq_true rfl, Nat.le_of_ble_eq_true rfl⟩) hK hZ hA hP hD hS [0, 1, 2, 3] [4, 5, 6, 7, 8, 9] rfl rfl (by decide) (by decide) (by decide) 0 3 rfl rfl rfl hl.1 (Nat.le_of_ble_eq_true rfl) ⟨Nat.le_of_ble_eq_true rfl, Nat.le_of_ble_eq_true rfl⟩ rfl dX4_does_3 (fun r9 u9 H locs hw9 hP hD hS => ?_)
  subst hw9
  obtain ⟨hP, hD⟩ := re_PD (w := (RDW G rh rd sh at9 mn9 lt9 nu9 sg9 ++ PW G ph pd nr nc pL pG pB pk pa pt pm)) hP hD [6, 7, 8, 9, 0, 1, 2, 3, 4, 5] (by decide) rfl
  refine lv_istore_n (lv' := [(3, .int (nI (nu9 (2 * i + 0)))), (0, .ref rh), (1, .ref ph), (2, .int (nI i))]) hx hb dX4_does_6 rfl hl (by decide) rfl (fun ls hl => ?_)
  refine lv_aload_n hx hb dX4_does_7 rfl (lv_at hl 1 rfl) ?_
  refine lv_iload_n hx hb dX4_does_8 rfl (lv_at hl 3 rfl) ?_
  refine lv_iconst (v := nI 1) hx hb dX4_does_9 (by decide) ?_
  refine callVi (As := [.int (nI i), .int (nI 1)]) (rest := []) (wc := (RDW G rh rd sh at9 mn9 lt9 nu9 sg9)) (wr := (PW G ph pd nr nc pL pG pB pk pa pt pm)) ⟨hx, hb, hml, hown, hts⟩ (m_X4_told l G rh rd sh at9 mn9 lt9 nu9 sg9 i 1 (by first | assumption | omega) (by first | assumption | omega)) (cwV 2 hts (lw_V q1608 q1610 qs32 q97 q1611) rfl rfl rfl (by decide +kernel) ⟨Nat.le_of_ble_eq_true rfl, Nat.le_of_ble_eq_true rfl⟩) hK hZ hA hP hD hS [0, 1, 2, 3] [4, 5, 6, 7, 8, 9] rfl rfl (by decide) (by decide) (by decide) 0 3 rfl rfl rfl hl.1 (Nat.le_of_ble_eq_true rfl) ⟨Nat.le_of_ble_eq_true rfl, Nat.le_of_ble_eq_true rfl⟩ rfl dX4_does_10 (fun r9 u9 H locs hw9 hP hD hS => ?_)
  subst hw9
  obtain ⟨hP, hD⟩ := re_PD (w := (RDW G rh rd sh at9 mn9 lt9 nu9 sg9 ++ PW G ph pd nr nc pL pG pB pk pa pt pm)) hP hD [6, 7, 8, 9, 0, 1, 2, 3, 4, 5] (by decide) rfl
  refine lv_istore (lv' := [(4, .int (nI (nu9 (2 * i + 1)))), (3, .int (nI (nu9 (2 * i + 0)))), (0, .ref rh), (1, .ref ph), (2, .int (nI i))]) hx hb dX4_does_13 hl (by decide) rfl (fun ls hl => ?_)
  refine lv_aload_n hx hb dX4_does_15 rfl (lv_at hl 2 rfl) ?_
  refine va_get (D := G.1) (ci := 3) (v := .ref (rd 0)) (C := RX4) (T := TX4) (N := 6) hx hb hts in_X4 hown hK hP 0 rfl rfl 3 (by decide) (hts _ q277) (fun _ h9 => h9) rfl dX4_does_16 ?_
  refine lv_iload_n hx hb dX4_does_19 rfl (lv_at hl 4 rfl) ?_
  refine n_cald hx hb hK hP 1 2 rfl rfl (by omega) (by decide) dX4_does_20 ?_
  by_cases k21_98 : nI (lt9 i) = nI 98
  · skip
    refine lv_lookup (off := 59) (tgt := 80) hx hb dX4_does_21 (by decide) (by rw [k21_98]; decide) (by decide) ?_
    refine lv_aload_n hx hb dX4_does_80 rfl (lv_at hl 3 rfl) ?_
    refine lv_iload_n hx hb dX4_does_81 rfl (lv_at hl 1 rfl) ?_
    refine lv_iload hx hb dX4_does_82 (lv_at hl 0 rfl) ?_
    refine callVi (As := [.int (nI (nu9 (2 * i + 0))), .int (nI (nu9 (2 * i + 1)))]) (rest := []) (wc := (PW G ph pd nr nc pL pG pB pk pa pt pm)) (wr := (RDW G rh rd sh at9 mn9 lt9 nu9 sg9)) ⟨hx, hb, hml, hown, hts⟩ (m_X2_board l G ph pd nr nc pL pG pB pk pa pt pm (nu9 (2 * i + 0)) (nu9 (2 * i + 1)) ) (cwV 2 hts (lw_V q1621 q1129 q1130 q89 q1131) rfl rfl rfl (by decide +kernel) ⟨Nat.le_of_ble_eq_true rfl, Nat.le_of_ble_eq_true rfl⟩) hK hZ hA hP hD hS [4, 5, 6, 7, 8, 9] [0, 1, 2, 3] rfl rfl (by decide) (by decide) (by decide) 0 1 rfl rfl rfl hl.1 (Nat.le_of_ble_eq_true rfl) ⟨Nat.le_of_ble_eq_true rfl, Nat.le_of_ble_eq_true rfl⟩ rfl dX4_does_84 (fun r9 u9 H locs hw9 hP hD hS => ?_)
    subst hw9
    have hP : va_P G.1 CL (RDW G rh rd sh at9 mn9 lt9 nu9 sg9 ++ PW G ph pd (nu9 (2 * i + 0)) (nu9 (2 * i + 1)) b9 b9 (fun _ => false) (va_up pk 4 (pk 4 + 1)) pa pt pm) _ := hP
    have hD : va_D A (RDW G rh rd sh at9 mn9 lt9 nu9 sg9 ++ PW G ph pd (nu9 (2 * i + 0)) (nu9 (2 * i + 1)) b9 b9 (fun _ => false) (va_up pk 4 (pk 4 + 1)) pa pt pm) := hD
    subst hQ
    rw [show (ordO b9 (nr, nc, pL, pG, pB, pk) o) = (0, ((nu9 (2 * i + 0)), (nu9 (2 * i + 1)), b9, b9, (fun _ => false), (va_up pk 4 (pk 4 + 1))), (nI ((nu9 (2 * i + 0)) * (nu9 (2 * i + 1)))), none) from (do_b (g1.symm.trans k21_98) g3 (g5 (Or.inl (g1.symm.trans k21_98))).1 hg g4 (g5 (Or.inl (g1.symm.trans k21_98))).2)]
    refine W.widen (k := 1) (n := 8) (Nat.le_of_ble_eq_true rfl) (Nat.le_of_ble_eq_true rfl) ?_
    refine vx_ret ?_
    exact ret_i hx hb hr hlk () ⟨rfl, rfl⟩ hP hD hS rfl dX4_does_87
  · skip
    by_cases k21_103 : nI (lt9 i) = nI 103
    · skip
      refine lv_lookup (off := 87) (tgt := 108) hx hb dX4_does_21 (by decide) (by rw [k21_103]; decide) (by decide) ?_
      have hgs := hg
      rw [rg_g (g1.symm.trans k21_103), ← g3] at hgs
      have hp1 := ix_lt hgs (by omega) (by omega)
      have hs6 := (g6 (Or.inr (g1.symm.trans k21_103))).2
      refine lv_aload_n hx hb dX4_does_108 rfl (lv_at hl 3 rfl) ?_
      refine lv_iload_n hx hb dX4_does_109 rfl (lv_at hl 1 rfl) ?_
      refine lv_aload_n hx hb dX4_does_110 rfl (lv_at hl 2 rfl) ?_
      refine va_get (D := G.1) (ci := 3) (v := .ref (rd 2)) (C := RX4) (T := TX4) (N := 6) hx hb hts in_X4 hown hK hP 0 rfl rfl 5 (by decide) (hts _ q279) (fun _ h9 => h9) rfl dX4_does_111 ?_
      refine lv_iload_n hx hb dX4_does_114 rfl (lv_at hl 4 rfl) ?_
      refine n_cald hx hb hK hP 3 2 rfl rfl (by omega) (by decide) dX4_does_115 ?_
      refine callXVi (As := [.int (nI (nu9 (2 * i + 0))), .int (nI (sg9 i))]) (rest := []) (wc := (PW G ph pd nr nc pL pG pB pk pa pt pm)) (wr := (RDW G rh rd sh at9 mn9 lt9 nu9 sg9)) ⟨hx, hb, hml, hown, hts⟩ (m_X2_goal l G ph pd nr nc pL pG pB pk pa pt pm (nu9 (2 * i + 0)) (sg9 i) (by first | assumption | omega) (by first | assumption | omega) (by first | assumption | omega) (by first | assumption | omega)) (cwV 2 hts (lw_V q1624 q1266 q1267 q89 q1268) rfl rfl rfl (by decide +kernel) ⟨Nat.le_of_ble_eq_true rfl, Nat.le_of_ble_eq_true rfl⟩) hK hZ hA hP hD hS [4, 5, 6, 7, 8, 9] [0, 1, 2, 3] rfl rfl (by decide) (by decide) (by decide) 0 1 rfl rfl rfl hl.1 (Nat.le_of_ble_eq_true rfl) ⟨Nat.le_of_ble_eq_true rfl, Nat.le_of_ble_eq_true rfl⟩ rfl dX4_does_116 (fun ce9 q9 u9 H locs hw9 hP hD hS hce hcv hcl => ?_) (fun r9 u9 H locs hw9 hP hD hS => ?_)
      · skip
        have hx116 : pG (nu9 (2 * i + 0)) = (sg9 i) := hw9
        have hP : va_P G.1 CL (RDW G rh rd sh at9 mn9 lt9 nu9 sg9 ++ PW G ph pd nr nc pL pG pB pk pa pt pm ++ RFW G q9 (nI 2) (nI (nu9 (2 * i + 0)))) _ := hP
        have hD : va_D A (RDW G rh rd sh at9 mn9 lt9 nu9 sg9 ++ PW G ph pd nr nc pL pG pB pk pa pt pm ++ RFW G q9 (nI 2) (nI (nu9 (2 * i + 0)))) := hD
        have hcl : s.vm.findClass RX6 = some ce9.cls := hcl
        subst hQ
        refine vx_widen (k := 1) (n := 8) (Nat.le_of_ble_eq_true rfl) (Nat.le_of_ble_eq_true rfl) ?_
        exact out_x (by rw [hnt]; exact fun x9 hx9 => nomatch hx9) hlk ⟨(nI 2), (nI (nu9 (2 * i + 0)))⟩ (by rw [do_g2 (g1.symm.trans k21_103) g3 (g6 (Or.inr (g1.symm.trans k21_103))).1 hg hsg g4 (g6 (Or.inr (g1.symm.trans k21_103))).2 hx116]; exact ⟨(by decide : ¬ (3 : Nat) = 0), rfl⟩) hP hD hS hce hcv hcl (Nat.le_refl _) (Nat.le_refl _)
      refine W.widen (k := 1) (n := 8) (Nat.le_refl _) (Nat.le_refl _) ?_
      obtain ⟨hr9, hw116⟩ := hw9
      subst hr9
      have hw116 : ¬ pG (nu9 (2 * i + 0)) = (sg9 i) := hw116
      have hP : va_P G.1 CL (RDW G rh rd sh at9 mn9 lt9 nu9 sg9 ++ PW G ph pd nr nc pL (va_up pG (nu9 (2 * i + 0)) (sg9 i)) pB pk pa pt pm) _ := hP
      have hD : va_D A (RDW G rh rd sh at9 mn9 lt9 nu9 sg9 ++ PW G ph pd nr nc pL (va_up pG (nu9 (2 * i + 0)) (sg9 i)) pB pk pa pt pm) := hD
      subst hQ
      rw [show (ordO b9 (nr, nc, pL, pG, pB, pk) o) = (0, (nr, nc, pL, (va_up pG (nu9 (2 * i + 0)) (sg9 i)), pB, pk), (nI (pG (nu9 (2 * i + 0)))), none) from (do_g (g1.symm.trans k21_103) g3 (g6 (Or.inr (g1.symm.trans k21_103))).1 hg hsg g4 (g6 (Or.inr (g1.symm.trans k21_103))).2 hw116)]
      refine vx_ret ?_
      exact ret_i hx hb hr hlk () ⟨rfl, rfl⟩ hP hD hS rfl dX4_does_119
    · skip
      by_cases k21_112 : nI (lt9 i) = nI 112
      · skip
        refine lv_lookup (off := 75) (tgt := 96) hx hb dX4_does_21 (by decide) (by rw [k21_112]; decide) (by decide) ?_
        have hgs := hg
        rw [rg_p (g1.symm.trans k21_112), ← g3] at hgs
        have hp1 := ix_lt hgs (by omega) (by omega)
        have hs6 := (g6 (Or.inl (g1.symm.trans k21_112))).2
        refine lv_aload_n hx hb dX4_does_96 rfl (lv_at hl 3 rfl) ?_
        refine lv_iload_n hx hb dX4_does_97 rfl (lv_at hl 1 rfl) ?_
        refine lv_aload_n hx hb dX4_does_98 rfl (lv_at hl 2 rfl) ?_
        refine va_get (D := G.1) (ci := 3) (v := .ref (rd 2)) (C := RX4) (T := TX4) (N := 6) hx hb hts in_X4 hown hK hP 0 rfl rfl 5 (by decide) (hts _ q279) (fun _ h9 => h9) rfl dX4_does_99 ?_
        refine lv_iload_n hx hb dX4_does_102 rfl (lv_at hl 4 rfl) ?_
        refine n_cald hx hb hK hP 3 2 rfl rfl (by omega) (by decide) dX4_does_103 ?_
        refine callXVi (As := [.int (nI (nu9 (2 * i + 0))), .int (nI (sg9 i))]) (rest := []) (wc := (PW G ph pd nr nc pL pG pB pk pa pt pm)) (wr := (RDW G rh rd sh at9 mn9 lt9 nu9 sg9)) ⟨hx, hb, hml, hown, hts⟩ (m_X2_put l G ph pd nr nc pL pG pB pk pa pt pm (nu9 (2 * i + 0)) (sg9 i) (by first | assumption | omega) (by first | assumption | omega) (by first | assumption | omega) (by first | assumption | omega)) (cwV 2 hts (lw_V q1623 q1211 q1212 q89 q1213) rfl rfl rfl (by decide +kernel) ⟨Nat.le_of_ble_eq_true rfl, Nat.le_of_ble_eq_true rfl⟩) hK hZ hA hP hD hS [4, 5, 6, 7, 8, 9] [0, 1, 2, 3] rfl rfl (by decide) (by decide) (by decide) 0 1 rfl rfl rfl hl.1 (Nat.le_of_ble_eq_true rfl) ⟨Nat.le_of_ble_eq_true rfl, Nat.le_of_ble_eq_true rfl⟩ rfl dX4_does_104 (fun ce9 q9 u9 H locs hw9 hP hD hS hce hcv hcl => ?_) (fun r9 u9 H locs hw9 hP hD hS => ?_)
        · skip
          have hx104 : pL (nu9 (2 * i + 0)) = (sg9 i) := hw9
          have hP : va_P G.1 CL (RDW G rh rd sh at9 mn9 lt9 nu9 sg9 ++ PW G ph pd nr nc pL pG pB pk pa pt pm ++ RFW G q9 (nI 2) (nI (nu9 (2 * i + 0)))) _ := hP
          have hD : va_D A (RDW G rh rd sh at9 mn9 lt9 nu9 sg9 ++ PW G ph pd nr nc pL pG pB pk pa pt pm ++ RFW G q9 (nI 2) (nI (nu9 (2 * i + 0)))) := hD
          have hcl : s.vm.findClass RX6 = some ce9.cls := hcl
          subst hQ
          refine vx_widen (k := 1) (n := 8) (Nat.le_of_ble_eq_true rfl) (Nat.le_of_ble_eq_true rfl) ?_
          exact out_x (by rw [hnt]; exact fun x9 hx9 => nomatch hx9) hlk ⟨(nI 2), (nI (nu9 (2 * i + 0)))⟩ (by rw [do_p2 (g1.symm.trans k21_112) g3 (g6 (Or.inl (g1.symm.trans k21_112))).1 hg hsg g4 (g6 (Or.inl (g1.symm.trans k21_112))).2 hx104]; exact ⟨(by decide : ¬ (3 : Nat) = 0), rfl⟩) hP hD hS hce hcv hcl (Nat.le_refl _) (Nat.le_refl _)
        refine W.widen (k := 1) (n := 8) (Nat.le_refl _) (Nat.le_refl _) ?_
        obtain ⟨hr9, hw104⟩ := hw9
        subst hr9
        have hw104 : ¬ pL (nu9 (2 * i + 0)) = (sg9 i) := hw104
        have hP : va_P G.1 CL (RDW G rh rd sh at9 mn9 lt9 nu9 sg9 ++ PW G ph pd nr nc (va_up pL (nu9 (2 * i + 0)) (sg9 i)) pG pB pk pa pt pm) _ := hP
        have hD : va_D A (RDW G rh rd sh at9 mn9 lt9 nu9 sg9 ++ PW G ph pd nr nc (va_up pL (nu9 (2 * i + 0)) (sg9 i)) pG pB pk pa pt pm) := hD
        subst hQ
        rw [show (ordO b9 (nr, nc, pL, pG, pB, pk) o) = (0, (nr, nc, (va_up pL (nu9 (2 * i + 0)) (sg9 i)), pG, pB, pk), (nI (pL (nu9 (2 * i + 0)))), none) from (do_p (g1.symm.trans k21_112) g3 (g6 (Or.inl (g1.symm.trans k21_112))).1 hg hsg g4 (g6 (Or.inl (g1.symm.trans k21_112))).2 hw104)]
        refine vx_ret ?_
        exact ret_i hx hb hr hlk () ⟨rfl, rfl⟩ hP hD hS rfl dX4_does_107
      · skip
        by_cases k21_115 : nI (lt9 i) = nI 115
        · skip
          refine lv_lookup (off := 67) (tgt := 88) hx hb dX4_does_21 (by decide) (by rw [k21_115]; decide) (by decide) ?_
          have hgs := hg
          rw [rg_s (g1.symm.trans k21_115), ← g3, ← (g5 (Or.inr (Or.inl (g1.symm.trans k21_115)))).1, Bool.and_eq_true] at hgs
          have hb9 := (g5 (Or.inr (Or.inl (g1.symm.trans k21_115)))).2
          have hp1 := ix_lt hgs.1 (by omega) (by omega)
          have hp2 := ix_lt hgs.2 (by omega) (by omega)
          refine lv_aload_n hx hb dX4_does_88 rfl (lv_at hl 3 rfl) ?_
          refine lv_iload_n hx hb dX4_does_89 rfl (lv_at hl 1 rfl) ?_
          refine lv_iload hx hb dX4_does_90 (lv_at hl 0 rfl) ?_
          refine callXVi (As := [.int (nI (nu9 (2 * i + 0))), .int (nI (nu9 (2 * i + 1)))]) (rest := []) (wc := (PW G ph pd nr nc pL pG pB pk pa pt pm)) (wr := (RDW G rh rd sh at9 mn9 lt9 nu9 sg9)) ⟨hx, hb, hml, hown, hts⟩ (m_X2_swap l G ph pd nr nc pL pG pB pk pa pt pm (nu9 (2 * i + 0)) (nu9 (2 * i + 1)) (by first | assumption | omega) (by first | assumption | omega) (by first | assumption | omega) (by first | assumption | omega) (by first | assumption | omega) (by first | assumption | omega)) (cwV 2 hts (lw_V q1622 q1296 q1297 q89 q1298) rfl rfl rfl (by decide +kernel) ⟨Nat.le_of_ble_eq_true rfl, Nat.le_of_ble_eq_true rfl⟩) hK hZ hA hP hD hS [4, 5, 6, 7, 8, 9] [0, 1, 2, 3] rfl rfl (by decide) (by decide) (by decide) 0 1 rfl rfl rfl hl.1 (Nat.le_of_ble_eq_true rfl) ⟨Nat.le_of_ble_eq_true rfl, Nat.le_of_ble_eq_true rfl⟩ rfl dX4_does_92 (fun ce9 q9 u9 H locs hw9 hP hD hS hce hcv hcl => ?_) (fun r9 u9 H locs hw9 hP hD hS => ?_)
          · skip
            have hx92 : (nu9 (2 * i + 0)) = (nu9 (2 * i + 1)) := hw9
            have hP : va_P G.1 CL (RDW G rh rd sh at9 mn9 lt9 nu9 sg9 ++ PW G ph pd nr nc pL pG pB pk pa pt pm ++ RFW G q9 (nI 3) (nI (nu9 (2 * i + 0)))) _ := hP
            have hD : va_D A (RDW G rh rd sh at9 mn9 lt9 nu9 sg9 ++ PW G ph pd nr nc pL pG pB pk pa pt pm ++ RFW G q9 (nI 3) (nI (nu9 (2 * i + 0)))) := hD
            have hcl : s.vm.findClass RX6 = some ce9.cls := hcl
            subst hQ
            refine vx_widen (k := 1) (n := 8) (Nat.le_of_ble_eq_true rfl) (Nat.le_of_ble_eq_true rfl) ?_
            exact out_x (by rw [hnt]; exact fun x9 hx9 => nomatch hx9) hlk ⟨(nI 3), (nI (nu9 (2 * i + 0)))⟩ (by rw [do_s2 (g1.symm.trans k21_115) g3 (g5 (Or.inr (Or.inl (g1.symm.trans k21_115)))).1 hg hx92]; exact ⟨(by decide : ¬ (2 : Nat) = 0), rfl⟩) hP hD hS hce hcv hcl (Nat.le_refl _) (Nat.le_refl _)
          refine W.widen (k := 1) (n := 8) (Nat.le_refl _) (Nat.le_refl _) ?_
          obtain ⟨hr9, hw92⟩ := hw9
          subst hr9
          have hw92 : ¬ (nu9 (2 * i + 0)) = (nu9 (2 * i + 1)) := hw92
          have hP : va_P G.1 CL (RDW G rh rd sh at9 mn9 lt9 nu9 sg9 ++ PW G ph pd nr nc (swL pL (nu9 (2 * i + 0)) (nu9 (2 * i + 1))) pG pB (va_up pk 1 (pk 1 + 1)) pa pt pm) _ := hP
          have hD : va_D A (RDW G rh rd sh at9 mn9 lt9 nu9 sg9 ++ PW G ph pd nr nc (swL pL (nu9 (2 * i + 0)) (nu9 (2 * i + 1))) pG pB (va_up pk 1 (pk 1 + 1)) pa pt pm) := hD
          subst hQ
          rw [show (ordO b9 (nr, nc, pL, pG, pB, pk) o) = (0, (nr, nc, (swL pL (nu9 (2 * i + 0)) (nu9 (2 * i + 1))), pG, pB, (va_up pk 1 (pk 1 + 1))), (nI (hm nr nc (swL pL (nu9 (2 * i + 0)) (nu9 (2 * i + 1))) pG)), none) from (do_s (g1.symm.trans k21_115) g3 (g5 (Or.inr (Or.inl (g1.symm.trans k21_115)))).1 hg g4 (g5 (Or.inr (Or.inl (g1.symm.trans k21_115)))).2 hw92)]
          refine vx_ret ?_
          exact ret_i hx hb hr hlk () ⟨rfl, rfl⟩ hP hD hS rfl dX4_does_95
        · skip
          by_cases k21_116 : nI (lt9 i) = nI 116
          · skip
            refine lv_lookup (off := 99) (tgt := 120) hx hb dX4_does_21 (by decide) (by rw [k21_116]; decide) (by decide) ?_
            have hgs := hg
            rw [rg_t (g1.symm.trans k21_116), ← g3] at hgs
            have hp1 := ix_lt hgs (by omega) (by omega)
            refine lv_aload_n hx hb dX4_does_120 rfl (lv_at hl 3 rfl) ?_
            refine lv_iload_n hx hb dX4_does_121 rfl (lv_at hl 1 rfl) ?_
            refine callXVi (As := [.int (nI (nu9 (2 * i + 0)))]) (rest := []) (wc := (PW G ph pd nr nc pL pG pB pk pa pt pm)) (wr := (RDW G rh rd sh at9 mn9 lt9 nu9 sg9)) ⟨hx, hb, hml, hown, hts⟩ (m_X2_turn l G ph pd nr nc pL pG pB pk pa pt pm (nu9 (2 * i + 0)) (by first | assumption | omega) (by first | assumption | omega) (by first | assumption | omega) (by first | assumption | omega) (by first | assumption | omega)) (cwV 1 hts (lw_V q1625 q1281 q1282 q89 q1283) rfl rfl rfl (by decide +kernel) ⟨Nat.le_of_ble_eq_true rfl, Nat.le_of_ble_eq_true rfl⟩) hK hZ hA hP hD hS [4, 5, 6, 7, 8, 9] [0, 1, 2, 3] rfl rfl (by decide) (by decide) (by decide) 0 1 rfl rfl rfl hl.1 (Nat.le_of_ble_eq_true rfl) ⟨Nat.le_of_ble_eq_true rfl, Nat.le_of_ble_eq_true rfl⟩ rfl dX4_does_122 (fun ce9 q9 u9 H locs hw9 hP hD hS hce hcv hcl => ?_) (fun r9 u9 H locs hw9 hP hD hS => ?_)
            · skip
              have hx122 : pB ((nu9 (2 * i + 0)) / 2) = true := hw9
              have hP : va_P G.1 CL (RDW G rh rd sh at9 mn9 lt9 nu9 sg9 ++ PW G ph pd nr nc pL pG pB pk pa pt pm ++ RFW G q9 (nI 1) (nI ((nu9 (2 * i + 0)) / 2))) _ := hP
              have hD : va_D A (RDW G rh rd sh at9 mn9 lt9 nu9 sg9 ++ PW G ph pd nr nc pL pG pB pk pa pt pm ++ RFW G q9 (nI 1) (nI ((nu9 (2 * i + 0)) / 2))) := hD
              have hcl : s.vm.findClass RX6 = some ce9.cls := hcl
              subst hQ
              refine vx_widen (k := 1) (n := 8) (Nat.le_of_ble_eq_true rfl) (Nat.le_of_ble_eq_true rfl) ?_
              exact out_x (by rw [hnt]; exact fun x9 hx9 => nomatch hx9) hlk ⟨(nI 1), (nI ((nu9 (2 * i + 0)) / 2))⟩ (by rw [do_t2 (g1.symm.trans k21_116) g3 hg g4 hx122]; exact ⟨(by decide : ¬ (2 : Nat) = 0), rfl⟩) hP hD hS hce hcv hcl (Nat.le_refl _) (Nat.le_refl _)
            refine W.widen (k := 1) (n := 8) (Nat.le_refl _) (Nat.le_refl _) ?_
            obtain ⟨hr9, hw122⟩ := hw9
            subst hr9
            have hw122 : pB ((nu9 (2 * i + 0)) / 2) = false := hw122
            have hP : va_P G.1 CL (RDW G rh rd sh at9 mn9 lt9 nu9 sg9 ++ PW G ph pd nr nc (tn nr nc (nu9 (2 * i + 0)) pL) pG pB (turnK nr nc pL pG pk (nu9 (2 * i + 0))) pa pt pm) _ := hP
            have hD : va_D A (RDW G rh rd sh at9 mn9 lt9 nu9 sg9 ++ PW G ph pd nr nc (tn nr nc (nu9 (2 * i + 0)) pL) pG pB (turnK nr nc pL pG pk (nu9 (2 * i + 0))) pa pt pm) := hD
            subst hQ
            rw [show (ordO b9 (nr, nc, pL, pG, pB, pk) o) = (0, (nr, nc, (tn nr nc (nu9 (2 * i + 0)) pL), pG, pB, (turnK nr nc pL pG pk (nu9 (2 * i + 0)))), (nI (hm nr nc (tn nr nc (nu9 (2 * i + 0)) pL) pG)), none) from (do_t (g1.symm.trans k21_116) g3 hg g4 hw122)]
            refine vx_ret ?_
            exact ret_i hx hb hr hlk () ⟨rfl, rfl⟩ hP hD hS rfl dX4_does_125
          · skip
            by_cases k21_120 : nI (lt9 i) = nI 120
            · skip
              refine lv_lookup (off := 105) (tgt := 126) hx hb dX4_does_21 (by decide) (by rw [k21_120]; decide) (by decide) ?_
              have hgs := hg
              rw [rg_x (g1.symm.trans k21_120), ← g3] at hgs
              have hp1 := ix_lt hgs (by omega) (by omega)
              refine lv_aload_n hx hb dX4_does_126 rfl (lv_at hl 3 rfl) ?_
              refine lv_iload_n hx hb dX4_does_127 rfl (lv_at hl 1 rfl) ?_
              refine callVi (As := [.int (nI (nu9 (2 * i + 0)))]) (rest := []) (wc := (PW G ph pd nr nc pL pG pB pk pa pt pm)) (wr := (RDW G rh rd sh at9 mn9 lt9 nu9 sg9)) ⟨hx, hb, hml, hown, hts⟩ (m_X2_bar l G ph pd nr nc pL pG pB pk pa pt pm (nu9 (2 * i + 0)) (by first | assumption | omega)) (cwV 1 hts (lw_V q1626 q1315 q1316 q89 q1317) rfl rfl rfl (by decide +kernel) ⟨Nat.le_of_ble_eq_true rfl, Nat.le_of_ble_eq_true rfl⟩) hK hZ hA hP hD hS [4, 5, 6, 7, 8, 9] [0, 1, 2, 3] rfl rfl (by decide) (by decide) (by decide) 0 1 rfl rfl rfl hl.1 (Nat.le_of_ble_eq_true rfl) ⟨Nat.le_of_ble_eq_true rfl, Nat.le_of_ble_eq_true rfl⟩ rfl dX4_does_128 (fun r9 u9 H locs hw9 hP hD hS => ?_)
              subst hw9
              have hP : va_P G.1 CL (RDW G rh rd sh at9 mn9 lt9 nu9 sg9 ++ PW G ph pd nr nc pL pG (va_up pB (nu9 (2 * i + 0)) (!pB (nu9 (2 * i + 0)))) pk pa pt pm) _ := hP
              have hD : va_D A (RDW G rh rd sh at9 mn9 lt9 nu9 sg9 ++ PW G ph pd nr nc pL pG (va_up pB (nu9 (2 * i + 0)) (!pB (nu9 (2 * i + 0)))) pk pa pt pm) := hD
              refine b_if_eq (tgt := 138) hx hb dX4_does_131 (by decide) (fun c131 => ?_) (fun c131 => ?_)
              · skip
                refine lv_iconst (v := nI 0) hx hb dX4_does_138 (by decide) ?_
                subst hQ
                rw [show (ordO b9 (nr, nc, pL, pG, pB, pk) o) = (0, (nr, nc, pL, pG, (va_up pB (nu9 (2 * i + 0)) (!pB (nu9 (2 * i + 0)))), pk), (nI 0), none) from (by rw [do_x (g1.symm.trans k21_120) g3 hg g4, c131]; rfl)]
                refine W.widen (k := 1) (n := 8) (Nat.le_of_ble_eq_true rfl) (Nat.le_of_ble_eq_true rfl) ?_
                refine vx_ret ?_
                exact ret_i hx hb hr hlk () ⟨rfl, rfl⟩ hP hD hS rfl dX4_does_139
              · skip
                refine lv_iconst (v := nI 1) hx hb dX4_does_134 (by decide) ?_
                refine lv_goto (tgt := 139) hx hb dX4_does_135 (by decide) ?_
                subst hQ
                rw [show (ordO b9 (nr, nc, pL, pG, pB, pk) o) = (0, (nr, nc, pL, pG, (va_up pB (nu9 (2 * i + 0)) (!pB (nu9 (2 * i + 0)))), pk), (nI 1), none) from (by rw [do_x (g1.symm.trans k21_120) g3 hg g4, c131]; rfl)]
                refine W.widen (k := 1) (n := 8) (Nat.le_of_ble_eq_true rfl) (Nat.le_of_ble_eq_true rfl) ?_
                refine vx_ret ?_
                exact ret_i hx hb hr hlk () ⟨rfl, rfl⟩ hP hD hS rfl dX4_does_139
            · skip
              refine lv_lookup (off := 119) (tgt := 140) hx hb dX4_does_21 (by decide) ((lv_osw k21_98 (by decide)).trans <| (lv_osw k21_103 (by decide)).trans <| (lv_osw k21_112 (by decide)).trans <| (lv_osw k21_115 (by decide)).trans <| (lv_osw k21_116 (by decide)).trans <| (lv_osw k21_120 (by decide)).trans <| rfl) (by decide) ?_
              have hgs := hg
              rw [rg_r (fun z => k21_98 (g1.trans z)) (fun z => k21_115 (g1.trans z)) (fun z => k21_112 (g1.trans z)) (fun z => k21_103 (g1.trans z)) (fun z => k21_116 (g1.trans z)) (fun z => k21_120 (g1.trans z)), ← g3, ← (g5 (Or.inr (Or.inr (L7_r h7 (fun z => k21_98 (g1.trans z)) (fun z => k21_115 (g1.trans z)) (fun z => k21_112 (g1.trans z)) (fun z => k21_103 (g1.trans z)) (fun z => k21_116 (g1.trans z)) (fun z => k21_120 (g1.trans z)))))).1, Bool.and_eq_true] at hgs
              have hb9 := (g5 (Or.inr (Or.inr (L7_r h7 (fun z => k21_98 (g1.trans z)) (fun z => k21_115 (g1.trans z)) (fun z => k21_112 (g1.trans z)) (fun z => k21_103 (g1.trans z)) (fun z => k21_116 (g1.trans z)) (fun z => k21_120 (g1.trans z)))))).2
              have hp2 := inN (by omega) (by decide) (by decide) hgs.2
              refine lv_aload_n hx hb dX4_does_140 rfl (lv_at hl 3 rfl) ?_
              refine lv_iload_n hx hb dX4_does_141 rfl (lv_at hl 1 rfl) ?_
              refine lv_iload hx hb dX4_does_142 (lv_at hl 0 rfl) ?_
              refine callVi (As := [.int (nI (nu9 (2 * i + 0))), .int (nI (nu9 (2 * i + 1)))]) (rest := []) (wc := (PW G ph pd nr nc pL pG pB pk pa pt pm)) (wr := (RDW G rh rd sh at9 mn9 lt9 nu9 sg9)) ⟨hx, hb, hml, hown, hts⟩ (m_X2_scramble l G ph pd nr nc pL pG pB pk pa pt pm (nu9 (2 * i + 0)) (nu9 (2 * i + 1)) (by first | assumption | omega) (by first | assumption | omega) (by first | assumption | omega) (by first | assumption | omega)) (cwV 2 hts (lw_V q1627 q1329 q1330 q89 q1331) rfl rfl rfl (by decide +kernel) ⟨Nat.le_of_ble_eq_true rfl, Nat.le_of_ble_eq_true rfl⟩) hK hZ hA hP hD hS [4, 5, 6, 7, 8, 9] [0, 1, 2, 3] rfl rfl (by decide) (by decide) (by decide) 0 1 rfl rfl rfl hl.1 (Nat.le_of_ble_eq_true rfl) ⟨Nat.le_of_ble_eq_true rfl, Nat.le_of_ble_eq_true rfl⟩ rfl dX4_does_144 (fun r9 u9 H locs hw9 hP hD hS => ?_)
              subst hw9
              have hP : va_P G.1 CL (RDW G rh rd sh at9 mn9 lt9 nu9 sg9 ++ PW G ph pd nr nc (scLN nr nc pB (nu9 (2 * i + 0)) pL (nu9 (2 * i + 1))) pG pB (va_up (va_up pk 0 (pk 0 + nI (scMN nr nc pB (nu9 (2 * i + 0)) (nu9 (2 * i + 1))))) 2 (pk 2 + 1)) pa pt pm) _ := hP
              have hD : va_D A (RDW G rh rd sh at9 mn9 lt9 nu9 sg9 ++ PW G ph pd nr nc (scLN nr nc pB (nu9 (2 * i + 0)) pL (nu9 (2 * i + 1))) pG pB (va_up (va_up pk 0 (pk 0 + nI (scMN nr nc pB (nu9 (2 * i + 0)) (nu9 (2 * i + 1))))) 2 (pk 2 + 1)) pa pt pm) := hD
              subst hQ
              rw [show (ordO b9 (nr, nc, pL, pG, pB, pk) o) = (0, (nr, nc, (scLN nr nc pB (nu9 (2 * i + 0)) pL (nu9 (2 * i + 1))), pG, pB, (va_up (va_up pk 0 (pk 0 + nI (scMN nr nc pB (nu9 (2 * i + 0)) (nu9 (2 * i + 1))))) 2 (pk 2 + 1))), (nI (scMN nr nc pB (nu9 (2 * i + 0)) (nu9 (2 * i + 1)))), none) from (do_r (L7_r h7 (fun z => k21_98 (g1.trans z)) (fun z => k21_115 (g1.trans z)) (fun z => k21_112 (g1.trans z)) (fun z => k21_103 (g1.trans z)) (fun z => k21_116 (g1.trans z)) (fun z => k21_120 (g1.trans z))) g3 (g5 (Or.inr (Or.inr (L7_r h7 (fun z => k21_98 (g1.trans z)) (fun z => k21_115 (g1.trans z)) (fun z => k21_112 (g1.trans z)) (fun z => k21_103 (g1.trans z)) (fun z => k21_116 (g1.trans z)) (fun z => k21_120 (g1.trans z)))))).1 hg g4 (g5 (Or.inr (Or.inr (L7_r h7 (fun z => k21_98 (g1.trans z)) (fun z => k21_115 (g1.trans z)) (fun z => k21_112 (g1.trans z)) (fun z => k21_103 (g1.trans z)) (fun z => k21_116 (g1.trans z)) (fun z => k21_120 (g1.trans z)))))).2)]
              refine W.widen (k := 1) (n := 8) (Nat.le_of_ble_eq_true rfl) (Nat.le_of_ble_eq_true rfl) ?_
              refine vx_ret ?_
              exact ret_i hx hb hr hlk () ⟨rfl, rfl⟩ hP hD hS rfl dX4_does_147
