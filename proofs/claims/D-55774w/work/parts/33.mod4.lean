def okO (z : ZT) (o : OT) : Prop := o.1 ≤ 3 ∧ (¬ o.1 = 0 → o.2.1 = z ∧ o.2.2.1 = nI 0) ∧ (o.1 = 0 → o.2.2.2 = none)
theorem okO_f {z : ZT} {n : Nat} {q : Option (Int32 × Int32)} (h : n ≤ 3) (h0 : ¬ n = 0) : okO z (n, z, nI 0, q) := ⟨h, fun _ => ⟨rfl, rfl⟩, fun e => absurd e h0⟩
theorem okO_t {z w : ZT} {v : Int32} : okO z (0, w, v, none) := ⟨Nat.zero_le 3, fun h => absurd rfl h, fun _ => rfl⟩
theorem okO_if {z : ZT} {P : Prop} [Decidable P] {a b : OT} (h1 : okO z a) (h2 : okO z b) : okO z (if P then a else b) := by
  by_cases h : P
  · rw [if_pos h]; exact h1
  · rw [if_neg h]; exact h2
theorem ok_board (J : Nat → Nat) (z : ZT) (a b : Int32) : okO z (oBoard J z a b) := okO_if okO_t (okO_f (by decide) (by decide))
theorem ok_put (z : ZT) (a b : Int32) : okO z (oPut z a b) := okO_if (okO_if (okO_if (okO_f (by decide) (by decide)) okO_t) (okO_f (by decide) (by decide))) (okO_f (by decide) (by decide))
theorem ok_goal (z : ZT) (a b : Int32) : okO z (oGoal z a b) := okO_if (okO_if (okO_if (okO_f (by decide) (by decide)) okO_t) (okO_f (by decide) (by decide))) (okO_f (by decide) (by decide))
theorem ok_turn (z : ZT) (a : Int32) : okO z (oTurn z a) := okO_if (okO_if (okO_f (by decide) (by decide)) okO_t) (okO_f (by decide) (by decide))
theorem ok_swap (z : ZT) (a b : Int32) : okO z (oSwap z a b) := okO_if (okO_if (okO_f (by decide) (by decide)) okO_t) (okO_f (by decide) (by decide))
theorem ok_bar (z : ZT) (a : Int32) : okO z (oBar z a) := okO_if okO_t (okO_f (by decide) (by decide))
theorem ok_scr (z : ZT) (a b : Int32) : okO z (oScr z a b) := okO_if okO_t (okO_f (by decide) (by decide))
theorem ok_step (z : ZT) : okO z (oStep z) := okO_if (okO_f (by decide) (by decide)) (okO_if (okO_f (by decide) (by decide)) (okO_if (okO_f (by decide) (by decide)) okO_t))
theorem okO.th {z : ZT} {o : OT} (h : okO z o) (h0 : ¬ o.1 = 0) : ¬ nI o.1 = 0 := fun e => h0 ((nI_eq (a := o.1) (b := 0) (by have := h.1; omega) (by decide)).mp (e.trans nI_0.symm))
/-- one letter told -/
def oTellL (z : ZT) (p v : Nat) : OT := if z.2.2.1 p = 97 + v then (3, z, nI 0, some (nI 2, nI p)) else (0, (z.1, z.2.1, va_up z.2.2.1 p (97 + v), z.2.2.2.1, z.2.2.2.2.1, z.2.2.2.2.2), nI (z.2.2.1 p), none)
def oTellG (z : ZT) (p w : Nat) : OT := if z.2.2.2.1 p = w then (3, z, nI 0, some (nI 2, nI p)) else (0, (z.1, z.2.1, z.2.2.1, va_up z.2.2.2.1 p w, z.2.2.2.2.1, z.2.2.2.2.2), nI (z.2.2.2.1 p), none)
/-- the board's letters and the goal's signs are letters -/
theorem gk_eq {w w' : Nat} (h : w = 46 ∨ (97 ≤ w ∧ w ≤ 108)) (h' : w' = 46 ∨ (97 ≤ w' ∧ w' ≤ 108)) : gk w = gk w' ↔ w = w' := by
  constructor
  · intro e
    rcases h' with h2 | h2
    · subst h2; exact (gk_m1 h).mp (e.trans gk_46)
    · have e2 : gk w' = nI (w' - 97) := if_neg (by omega)
      exact (fit_code h2 h).mp (e.trans e2)
  · rintro rfl; rfl
theorem swL_rg {n a b : Nat} {L : Nat → Nat} (h : ∀ q, q < n → 97 ≤ L q ∧ L q ≤ 108) (ha : a < n) (hb : b < n) : ∀ q, q < n → 97 ≤ swL L a b q ∧ swL L a b q ≤ 108 := fun q hq => by
  unfold swL va_up
  by_cases h1 : q = b
  · simp only [h1, if_true]; exact h a ha
  · simp only [if_neg h1]
    by_cases h2 : q = a
    · simp only [h2, if_true]; exact h b hb
    · simp only [if_neg h2]; exact h q hq
theorem sw_eq {n a b : Nat} {L : Nat → Nat} (h : ∀ q, q < n → 97 ≤ L q ∧ L q ≤ 108) (ha : a < n) (hb : b < n) : va_up (va_up L a (97 + (L b - 97))) b (97 + (L a - 97)) = swL L a b := by
  have h1 := h a ha
  have h2 := h b hb
  rw [show 97 + (L b - 97) = L b by omega, show 97 + (L a - 97) = L a by omega]; rfl
theorem scLN_rg {nr nc : Nat} {B : Nat → Bool} {seed : Nat} {L : Nat → Nat} (hd : 2 ≤ nr ∧ nr ≤ 3 ∧ 2 ≤ nc ∧ nc ≤ 3) (h : ∀ q, q < nr * nc → 97 ≤ L q ∧ L q ≤ 108) : ∀ k q, q < nr * nc → 97 ≤ scLN nr nc B seed L k q ∧ scLN nr nc B seed L k q ≤ 108
  | 0 => h
  | k + 1 => by
    simp only [scLN]
    by_cases hB : B (sctN nr nc seed k / 2) = true
    · rw [if_pos hB]; exact scLN_rg hd h k
    · rw [if_neg hB]; exact tn_rg hd (Nat.mod_lt _ (by omega)) (scLN_rg hd h k)
theorem k_up {k : Nat → Int32} {n : Nat} : va_up (va_up k 0 (k 0 + nI n)) 0 (va_up k 0 (k 0 + nI n) 0 + 1) = va_up k 0 (k 0 + nI (n + 1)) := by
  funext j; unfold va_up
  by_cases h : j = 0
  · simp only [h, if_true]; rw [nI_succ, Int32.add_assoc]
  · simp only [if_neg h]
theorem k_up0 {k : Nat → Int32} : k = va_up k 0 (k 0 + nI 0) := by
  funext j; unfold va_up
  by_cases h : j = 0
  · simp only [h, if_true]; rw [nI_0, Int32.add_zero]
  · simp only [if_neg h]
theorem put_v {z : ZT} {a b : Int32} (h : ∀ q, q < z.1 * z.2.1 → 97 ≤ z.2.2.1 q ∧ z.2.2.1 q ≤ 108) (hn : z.1 * z.2.1 < 2147483648) : ∃ v, v < 65536 ∧ (oPut z a b).2.2.1 = nI v := by
  unfold oPut
  by_cases h1 : isIx a (z.1 * z.2.1) = true
  · obtain ⟨k, hk, rfl⟩ := isIx_t h1 hn
    rw [if_pos h1]
    split
    · split
      · exact ⟨0, by decide, rfl⟩
      · exact ⟨z.2.2.1 (cl_ (nI k)), by rw [cl_n (by omega)]; have := h k hk; omega, rfl⟩
    · exact ⟨0, by decide, rfl⟩
  · rw [if_neg h1]; exact ⟨0, by decide, rfl⟩
theorem goal_v {z : ZT} {a b : Int32} (h : ∀ q, q < z.1 * z.2.1 → z.2.2.2.1 q = 46 ∨ (97 ≤ z.2.2.2.1 q ∧ z.2.2.2.1 q ≤ 108)) (hn : z.1 * z.2.1 < 2147483648) : ∃ v, v < 65536 ∧ (oGoal z a b).2.2.1 = nI v := by
  unfold oGoal
  by_cases h1 : isIx a (z.1 * z.2.1) = true
  · obtain ⟨k, hk, rfl⟩ := isIx_t h1 hn
    rw [if_pos h1]
    split
    · split
      · exact ⟨0, by decide, rfl⟩
      · exact ⟨z.2.2.2.1 (cl_ (nI k)), by rw [cl_n (by omega)]; have := h k hk; omega, rfl⟩
    · exact ⟨0, by decide, rfl⟩
  · rw [if_neg h1]; exact ⟨0, by decide, rfl⟩
def oH (o : OT) (zl : List ZT) (z : ZT) : List ZT := if o.1 = 0 then pushH zl z else zl
set_option maxHeartbeats 4000000 in
set_option maxRecDepth 100000 in
theorem m_X5_boards (l : Launch) (G : GG) (mh : Nat) (md : Nat → Nat) (nr : Nat) (nc : Nat) (pL : Nat → Nat) (pG : Nat → Nat) (pB : Nat → Bool) (pk : Nat → Int32) (bf : Nat → Int32) (hi : Nat → Int32) (sv : Nat → Int32) (ch : Nat) (hs : Bool) (inp : Nat → Nat) (ty : Nat) (er : Int32) (wy : Int32) (wd : Int32) (rf : Bool) (lt : Nat → Nat) (ln : Nat) (th : Int32) (tr : Nat → Nat) (mv : Nat → Nat) (fo : Int32) (sp : Nat) (wr : Bool) (td : Nat → Int32) (ba : Int32) (bb : Int32) (hd : 2 ≤ nr ∧ nr ≤ 3 ∧ 2 ≤ nc ∧ nc ≤ 3) : MM l G yX5_boards cX5_boards 3 (some .int) ⟨1, 0, 0, 23⟩ [.ref mh, .int ba, .int bb] (MW G mh md nr nc pL pG pB pk bf hi sv ch hs inp ty er wy wd rf lt ln th tr mv fo sp wr td) (Qi_ G (fun (r : Int32) (_ : Unit) => r = (oBoard (fun _ => 97) (nr, nc, pL, pG, pB, pk) ba bb).2.2.1) (fun (_ : Unit) => (MW G mh md ((oBoard (fun _ => 97) (nr, nc, pL, pG, pB, pk) ba bb).2.1.1) ((oBoard (fun _ => 97) (nr, nc, pL, pG, pB, pk) ba bb).2.1.2.1) ((oBoard (fun _ => 97) (nr, nc, pL, pG, pB, pk) ba bb).2.1.2.2.1) ((oBoard (fun _ => 97) (nr, nc, pL, pG, pB, pk) ba bb).2.1.2.2.2.1) ((oBoard (fun _ => 97) (nr, nc, pL, pG, pB, pk) ba bb).2.1.2.2.2.2.1) ((oBoard (fun _ => 97) (nr, nc, pL, pG, pB, pk) ba bb).2.1.2.2.2.2.2) bf hi sv ch hs inp ty er (oWy (oBoard (fun _ => 97) (nr, nc, pL, pG, pB, pk) ba bb) wy) (oWd (oBoard (fun _ => 97) (nr, nc, pL, pG, pB, pk) ba bb) wd) (oRf (oBoard (fun _ => 97) (nr, nc, pL, pG, pB, pk) ba bb) rf) lt ln (nI (oBoard (fun _ => 97) (nr, nc, pL, pG, pB, pk) ba bb).1) tr mv fo sp wr td))) := by
  refine MM.of (by decide) (Nat.le_of_ble_eq_true rfl) ?_
  intro p e s m args below meth cd A C hini hA hK hZ hP hD ls hl
  generalize hQ : MQ below ((Qi_ G (fun (r : Int32) (_ : Unit) => r = (oBoard (fun _ => 97) (nr, nc, pL, pG, pB, pk) ba bb).2.2.1) (fun (_ : Unit) => (MW G mh md ((oBoard (fun _ => 97) (nr, nc, pL, pG, pB, pk) ba bb).2.1.1) ((oBoard (fun _ => 97) (nr, nc, pL, pG, pB, pk) ba bb).2.1.2.1) ((oBoard (fun _ => 97) (nr, nc, pL, pG, pB, pk) ba bb).2.1.2.2.1) ((oBoard (fun _ => 97) (nr, nc, pL, pG, pB, pk) ba bb).2.1.2.2.2.1) ((oBoard (fun _ => 97) (nr, nc, pL, pG, pB, pk) ba bb).2.1.2.2.2.2.1) ((oBoard (fun _ => 97) (nr, nc, pL, pG, pB, pk) ba bb).2.1.2.2.2.2.2) bf hi sv ch hs inp ty er (oWy (oBoard (fun _ => 97) (nr, nc, pL, pG, pB, pk) ba bb) wy) (oWd (oBoard (fun _ => 97) (nr, nc, pL, pG, pB, pk) ba bb) wd) (oRf (oBoard (fun _ => 97) (nr, nc, pL, pG, pB, pk) ba bb) rf) lt ln (nI (oBoard (fun _ => 97) (nr, nc, pL, pG, pB, pk) ba bb).1) tr mv fo sp wr td))) A) args s (⟨1, 0, 0, 23⟩ : Room).cells (⟨1, 0, 0, 23⟩ : Room).slots A = Q
  obtain ⟨hx, hb, hr, hts, hown, hlk, hml⟩ := C
  have hown : s.vm.findClass RX5 = some m.cls := hown
  have hS : va_S A s.heap s.heap [] := va_S.rf
  have hl : lv_has ls 3 [(0, .ref mh), (1, .int ba), (2, .int bb)] := hl
  have hmu := dm_mul hd
  refine lv_iload_n hx hb dX5_boards_0 rfl (lv_at hl 1 rfl) ?_
  refine lv_iconst (v := nI 2) hx hb dX5_boards_1 (by decide) ?_
  refine lv_iconst (v := nI 3) hx hb dX5_boards_2 (by decide) ?_
  refine callSi (As := [.int ba, .int (nI 2), .int (nI 3)]) (rest := []) (wc := ([] : va_W)) (wr := (MW G mh md nr nc pL pG pB pk bf hi sv ch hs inp ty er wy wd rf lt ln th tr mv fo sp wr td)) ⟨hx, hb, hml, hown, hts⟩ (m_X5_in l G ba (nI 2) (nI 3) ) (va_cwS 3 hts (lw_S q1810 q1811 q105 q1812) rfl rfl rfl (by decide +kernel) ⟨Nat.le_of_ble_eq_true rfl, Nat.le_of_ble_eq_true rfl⟩) hK hZ hA hP hD hS [] [0, 1, 2, 3, 4, 5, 6, 7, 8, 9] rfl rfl (by decide) (by decide) (by decide) rfl hl.1 (Nat.le_of_ble_eq_true rfl) ⟨Nat.le_of_ble_eq_true rfl, Nat.le_of_ble_eq_true rfl⟩ rfl dX5_boards_3 (fun r9 u9 H locs hw9 hP hD hS => ?_)
  subst hw9
  have hP : va_P G.1 CL (MW G mh md nr nc pL pG pB pk bf hi sv ch hs inp ty er wy wd rf lt ln th tr mv fo sp wr td) _ := hP
  have hD : va_D A (MW G mh md nr nc pL pG pB pk bf hi sv ch hs inp ty er wy wd rf lt ln th tr mv fo sp wr td) := hD
  refine b_if_eq (tgt := 18) hx hb dX5_boards_6 (by decide) (fun c6 => ?_) (fun c6 => ?_)
  · skip
    refine lv_aload_n hx hb dX5_boards_18 rfl (lv_at hl 0 rfl) ?_
    refine lv_iconst (v := nI 1) hx hb dX5_boards_19 (by decide) ?_
    refine callVi (As := [.int (nI 1)]) (rest := []) (wc := (MW G mh md nr nc pL pG pB pk bf hi sv ch hs inp ty er wy wd rf lt ln th tr mv fo sp wr td)) (wr := ([] : va_W)) ⟨hx, hb, hml, hown, hts⟩ (m_X5_fails l G mh md nr nc pL pG pB pk bf hi sv ch hs inp ty er wy wd rf lt ln th tr mv fo sp wr td (nI 1) ) (cwV 1 hts (lw_V q1813 q1815 qs37 q105 q1816) rfl rfl rfl (by decide +kernel) ⟨Nat.le_of_ble_eq_true rfl, Nat.le_of_ble_eq_true rfl⟩) hK hZ hA hP hD hS [0, 1, 2, 3, 4, 5, 6, 7, 8, 9] [] rfl rfl (by decide) (by decide) (by decide) 0 4 rfl rfl rfl hl.1 (Nat.le_of_ble_eq_true rfl) ⟨Nat.le_of_ble_eq_true rfl, Nat.le_of_ble_eq_true rfl⟩ rfl dX5_boards_20 (fun r9 u9 H locs hw9 hP hD hS => ?_)
    subst hw9
    have hP : va_P G.1 CL (MW G mh md nr nc pL pG pB pk bf hi sv ch hs inp ty er wy wd false lt ln (nI 1) tr mv fo sp wr td) _ := hP
    have hD : va_D A (MW G mh md nr nc pL pG pB pk bf hi sv ch hs inp ty er wy wd false lt ln (nI 1) tr mv fo sp wr td) := hD
    subst hQ
    rw [show oBoard (fun _ => 97) (nr, nc, pL, pG, pB, pk) ba bb = (1, (nr, nc, pL, pG, pB, pk), nI 0, none) from (if_neg (by intro z; rw [Bool.and_eq_true] at z; first | (rw [c6] at z; exact absurd z.1 (by decide)) | (rw [c15] at z; exact absurd z.2 (by decide))))]
    exact ret_i hx hb hr hlk () rfl hP hD hS rfl dX5_boards_23
  · skip
    refine lv_iload_n hx hb dX5_boards_9 rfl (lv_at hl 2 rfl) ?_
    refine lv_iconst (v := nI 2) hx hb dX5_boards_10 (by decide) ?_
    refine lv_iconst (v := nI 3) hx hb dX5_boards_11 (by decide) ?_
    refine callSi (As := [.int bb, .int (nI 2), .int (nI 3)]) (rest := []) (wc := ([] : va_W)) (wr := (MW G mh md nr nc pL pG pB pk bf hi sv ch hs inp ty er wy wd rf lt ln th tr mv fo sp wr td)) ⟨hx, hb, hml, hown, hts⟩ (m_X5_in l G bb (nI 2) (nI 3) ) (va_cwS 3 hts (lw_S q1810 q1811 q105 q1812) rfl rfl rfl (by decide +kernel) ⟨Nat.le_of_ble_eq_true rfl, Nat.le_of_ble_eq_true rfl⟩) hK hZ hA hP hD hS [] [0, 1, 2, 3, 4, 5, 6, 7, 8, 9] rfl rfl (by decide) (by decide) (by decide) rfl hl.1 (Nat.le_of_ble_eq_true rfl) ⟨Nat.le_of_ble_eq_true rfl, Nat.le_of_ble_eq_true rfl⟩ rfl dX5_boards_12 (fun r9 u9 H locs hw9 hP hD hS => ?_)
    subst hw9
    have hP : va_P G.1 CL (MW G mh md nr nc pL pG pB pk bf hi sv ch hs inp ty er wy wd rf lt ln th tr mv fo sp wr td) _ := hP
    have hD : va_D A (MW G mh md nr nc pL pG pB pk bf hi sv ch hs inp ty er wy wd rf lt ln th tr mv fo sp wr td) := hD
    refine b_if_ne (tgt := 24) hx hb dX5_boards_15 (by decide) (fun c15 => ?_) (fun c15 => ?_)
    · skip
      obtain ⟨ka, hka1, hka2, rfl⟩ := inR_nI c6 (by decide) (by decide)
      obtain ⟨kb, hkb1, hkb2, rfl⟩ := inR_nI c15 (by decide) (by decide)
      refine lv_aload_n hx hb dX5_boards_24 rfl (lv_at hl 0 rfl) ?_
      refine lv_iload_n hx hb dX5_boards_25 rfl (lv_at hl 1 rfl) ?_
      refine lv_iload_n hx hb dX5_boards_26 rfl (lv_at hl 2 rfl) ?_
      refine callVv (As := [.int (nI ka), .int (nI kb)]) (rest := []) (wc := (MW G mh md nr nc pL pG pB pk bf hi sv ch hs inp ty er wy wd rf lt ln th tr mv fo sp wr td)) (wr := ([] : va_W)) ⟨hx, hb, hml, hown, hts⟩ (m_X5_lays l G mh md nr nc pL pG pB pk bf hi sv ch hs inp ty er wy wd rf lt ln th tr mv fo sp wr td ka kb (by first | assumption | omega) (by first | assumption | omega)) (cwV 2 hts (lw_V q1723 q1725 qs34 q105 q1726) rfl rfl rfl (by decide +kernel) ⟨Nat.le_of_ble_eq_true rfl, Nat.le_of_ble_eq_true rfl⟩) hK hZ hA hP hD hS [0, 1, 2, 3, 4, 5, 6, 7, 8, 9] [] rfl rfl (by decide) (by decide) (by decide) 0 4 rfl rfl rfl hl.1 (Nat.le_of_ble_eq_true rfl) ⟨Nat.le_of_ble_eq_true rfl, Nat.le_of_ble_eq_true rfl⟩ rfl dX5_boards_27 (fun u9 H locs hw9 hP hD hS => ?_)
      have hP : va_P G.1 CL (MW G mh md ka kb (bdL (fun _ => 97) (ka * kb)) (bdL (fun _ => 97) (ka * kb)) (fun _ => false) pk bf hi sv ch hs inp ty er wy wd rf lt ln th tr mv fo sp wr td) _ := hP
      have hD : va_D A (MW G mh md ka kb (bdL (fun _ => 97) (ka * kb)) (bdL (fun _ => 97) (ka * kb)) (fun _ => false) pk bf hi sv ch hs inp ty er wy wd rf lt ln th tr mv fo sp wr td) := hD
      refine lv_aload_n hx hb dX5_boards_30 rfl (lv_at hl 0 rfl) ?_
      refine va_get (D := G.1) (ci := 4) (v := .ref (md 0)) (C := RX5) (T := TX5) (N := 21) hx hb hts in_X5 hown hK hP 0 rfl rfl 0 (by decide) (hts _ q1727) (fun _ h9 => h9) rfl dX5_boards_31 ?_
      refine lv_bipush (v := nI 6) hx hb dX5_boards_34 (by decide) ?_
      refine lv_dup2_11 hx hb dX5_boards_36 rfl rfl ?_
      refine r_iald hx hb hK hP 1 3 rfl rfl (by omega) (by decide) dX5_boards_37 ?_
      refine eq_i (y := (pk 4)) rfl ?_
      refine lv_iconst (v := nI 1) hx hb dX5_boards_38 (by decide) ?_
      refine lv_iadd hx hb dX5_boards_39 ?_
      refine r_iast hx hb hK hP hD hS 1 3 rfl rfl (by omega) (by decide) dX5_boards_40 (fun H locs hP hD hS => ?_)
      rw [show va_up (gZ (ka, kb, (bdL (fun _ => 97) (ka * kb)), (bdL (fun _ => 97) (ka * kb)), (fun _ => false), pk)) 6 ((pk 4) + (nI 1)) = (gZ (ka, kb, (bdL (fun _ => 97) (ka * kb)), (bdL (fun _ => 97) (ka * kb)), (fun _ => false), (va_up pk 4 ((pk 4) + (nI 1))))) from (gZ_sk (j := 4) (by decide))] at hP hD
      have hP : va_P G.1 CL (MW G mh md ka kb (bdL (fun _ => 97) (ka * kb)) (bdL (fun _ => 97) (ka * kb)) (fun _ => false) (va_up pk 4 ((pk 4) + (nI 1))) bf hi sv ch hs inp ty er wy wd rf lt ln th tr mv fo sp wr td) _ := hP
      have hD : va_D A (MW G mh md ka kb (bdL (fun _ => 97) (ka * kb)) (bdL (fun _ => 97) (ka * kb)) (fun _ => false) (va_up pk 4 ((pk 4) + (nI 1))) bf hi sv ch hs inp ty er wy wd rf lt ln th tr mv fo sp wr td) := hD
      refine lv_aload_n hx hb dX5_boards_41 rfl (lv_at hl 0 rfl) ?_
      refine lv_aload_n hx hb dX5_boards_42 rfl (lv_at hl 0 rfl) ?_
      refine callVi (As := []) (rest := [.ref mh]) (wc := (MW G mh md ka kb (bdL (fun _ => 97) (ka * kb)) (bdL (fun _ => 97) (ka * kb)) (fun _ => false) (va_up pk 4 ((pk 4) + (nI 1))) bf hi sv ch hs inp ty er wy wd rf lt ln th tr mv fo sp wr td)) (wr := ([] : va_W)) ⟨hx, hb, hml, hown, hts⟩ (m_X5_places l G mh md ka kb (bdL (fun _ => 97) (ka * kb)) (bdL (fun _ => 97) (ka * kb)) (fun _ => false) (va_up pk 4 ((pk 4) + (nI 1))) bf hi sv ch hs inp ty er wy wd rf lt ln th tr mv fo sp wr td ) (cwV 0 hts (lw_V q1817 q1819 qs38 q105 q1820) rfl rfl rfl (by decide +kernel) ⟨Nat.le_of_ble_eq_true rfl, Nat.le_of_ble_eq_true rfl⟩) hK hZ hA hP hD hS [0, 1, 2, 3, 4, 5, 6, 7, 8, 9] [] rfl rfl (by decide) (by decide) (by decide) 0 4 rfl rfl rfl hl.1 (Nat.le_of_ble_eq_true rfl) ⟨Nat.le_of_ble_eq_true rfl, Nat.le_of_ble_eq_true rfl⟩ rfl dX5_boards_43 (fun r9 u9 H locs hw9 hP hD hS => ?_)
      subst hw9
      have hP : va_P G.1 CL (MW G mh md ka kb (bdL (fun _ => 97) (ka * kb)) (bdL (fun _ => 97) (ka * kb)) (fun _ => false) (va_up pk 4 ((pk 4) + (nI 1))) bf hi sv ch hs inp ty er wy wd rf lt ln th tr mv fo sp wr td) _ := hP
      have hD : va_D A (MW G mh md ka kb (bdL (fun _ => 97) (ka * kb)) (bdL (fun _ => 97) (ka * kb)) (fun _ => false) (va_up pk 4 ((pk 4) + (nI 1))) bf hi sv ch hs inp ty er wy wd rf lt ln th tr mv fo sp wr td) := hD
      refine callVi (As := [.int (nI (ka * kb))]) (rest := []) (wc := (MW G mh md ka kb (bdL (fun _ => 97) (ka * kb)) (bdL (fun _ => 97) (ka * kb)) (fun _ => false) (va_up pk 4 ((pk 4) + (nI 1))) bf hi sv ch hs inp ty er wy wd rf lt ln th tr mv fo sp wr td)) (wr := ([] : va_W)) ⟨hx, hb, hml, hown, hts⟩ (m_X5_done l G mh md ka kb (bdL (fun _ => 97) (ka * kb)) (bdL (fun _ => 97) (ka * kb)) (fun _ => false) (va_up pk 4 ((pk 4) + (nI 1))) bf hi sv ch hs inp ty er wy wd rf lt ln th tr mv fo sp wr td (nI (ka * kb)) ) (cwV 1 hts (lw_V q1821 q1823 qs39 q105 q1824) rfl rfl rfl (by decide +kernel) ⟨Nat.le_of_ble_eq_true rfl, Nat.le_of_ble_eq_true rfl⟩) hK hZ hA hP hD hS [0, 1, 2, 3, 4, 5, 6, 7, 8, 9] [] rfl rfl (by decide) (by decide) (by decide) 0 4 rfl rfl rfl hl.1 (Nat.le_of_ble_eq_true rfl) ⟨Nat.le_of_ble_eq_true rfl, Nat.le_of_ble_eq_true rfl⟩ rfl dX5_boards_46 (fun r9 u9 H locs hw9 hP hD hS => ?_)
      subst hw9
      have hP : va_P G.1 CL (MW G mh md ka kb (bdL (fun _ => 97) (ka * kb)) (bdL (fun _ => 97) (ka * kb)) (fun _ => false) (va_up pk 4 ((pk 4) + (nI 1))) bf hi sv ch hs inp ty er wy wd rf lt ln (nI 0) tr mv fo sp wr td) _ := hP
      have hD : va_D A (MW G mh md ka kb (bdL (fun _ => 97) (ka * kb)) (bdL (fun _ => 97) (ka * kb)) (fun _ => false) (va_up pk 4 ((pk 4) + (nI 1))) bf hi sv ch hs inp ty er wy wd rf lt ln (nI 0) tr mv fo sp wr td) := hD
      subst hQ
      rw [show oBoard (fun _ => 97) (nr, nc, pL, pG, pB, pk) (nI ka) (nI kb) = (0, (ka, kb, (bdL (fun _ => 97) (ka * kb)), (bdL (fun _ => 97) (ka * kb)), (fun _ => false), (va_up pk 4 ((pk 4) + (nI 1)))), (nI (ka * kb)), none) from (by unfold oBoard; rw [if_pos (by rw [c6, c15]; rfl), cl_n (by omega), cl_n (by omega)]; rfl)]
      exact ret_i hx hb hr hlk () rfl hP hD hS rfl dX5_boards_49
    · skip
      refine lv_aload_n hx hb dX5_boards_18 rfl (lv_at hl 0 rfl) ?_
      refine lv_iconst (v := nI 1) hx hb dX5_boards_19 (by decide) ?_
      refine callVi (As := [.int (nI 1)]) (rest := []) (wc := (MW G mh md nr nc pL pG pB pk bf hi sv ch hs inp ty er wy wd rf lt ln th tr mv fo sp wr td)) (wr := ([] : va_W)) ⟨hx, hb, hml, hown, hts⟩ (m_X5_fails l G mh md nr nc pL pG pB pk bf hi sv ch hs inp ty er wy wd rf lt ln th tr mv fo sp wr td (nI 1) ) (cwV 1 hts (lw_V q1813 q1815 qs37 q105 q1816) rfl rfl rfl (by decide +kernel) ⟨Nat.le_of_ble_eq_true rfl, Nat.le_of_ble_eq_true rfl⟩) hK hZ hA hP hD hS [0, 1, 2, 3, 4, 5, 6, 7, 8, 9] [] rfl rfl (by decide) (by decide) (by decide) 0 4 rfl rfl rfl hl.1 (Nat.le_of_ble_eq_true rfl) ⟨Nat.le_of_ble_eq_true rfl, Nat.le_of_ble_eq_true rfl⟩ rfl dX5_boards_20 (fun r9 u9 H locs hw9 hP hD hS => ?_)
      subst hw9
      have hP : va_P G.1 CL (MW G mh md nr nc pL pG pB pk bf hi sv ch hs inp ty er wy wd false lt ln (nI 1) tr mv fo sp wr td) _ := hP
      have hD : va_D A (MW G mh md nr nc pL pG pB pk bf hi sv ch hs inp ty er wy wd false lt ln (nI 1) tr mv fo sp wr td) := hD
      subst hQ
      rw [show oBoard (fun _ => 97) (nr, nc, pL, pG, pB, pk) ba bb = (1, (nr, nc, pL, pG, pB, pk), nI 0, none) from (if_neg (by intro z; rw [Bool.and_eq_true] at z; first | (rw [c6] at z; exact absurd z.1 (by decide)) | (rw [c15] at z; exact absurd z.2 (by decide))))]
      exact ret_i hx hb hr hlk () rfl hP hD hS rfl dX5_boards_23
set_option maxHeartbeats 4000000 in
set_option maxRecDepth 100000 in
theorem m_X5_tells__L (l : Launch) (G : GG) (mh : Nat) (md : Nat → Nat) (nr : Nat) (nc : Nat) (pL : Nat → Nat) (pG : Nat → Nat) (pB : Nat → Bool) (pk : Nat → Int32) (bf : Nat → Int32) (hi : Nat → Int32) (sv : Nat → Int32) (ch : Nat) (hs : Bool) (inp : Nat → Nat) (ty : Nat) (er : Int32) (wy : Int32) (wd : Int32) (rf : Bool) (lt : Nat → Nat) (ln : Nat) (th : Int32) (tr : Nat → Nat) (mv : Nat → Nat) (fo : Int32) (sp : Nat) (wr : Bool) (td : Nat → Int32) (pp : Nat) (tv : Nat) (hd : 2 ≤ nr ∧ nr ≤ 3 ∧ 2 ≤ nc ∧ nc ≤ 3) (hp0 : pp < nr * nc) (htv : tv < 12) (hLR : ∀ q, q < nr * nc → 97 ≤ pL q ∧ pL q ≤ 108) : MM l G yX5_tells cX5_tells 5 (some .int) ⟨1, 0, 0, 23⟩ [.ref mh, .int (nI 14), .int (nI pp), .int (nI tv)] (MW G mh md nr nc pL pG pB pk bf hi sv ch hs inp ty er wy wd rf lt ln th tr mv fo sp wr td) (Qi_ G (fun (r : Int32) (_ : Unit) => r = (oTellL (nr, nc, pL, pG, pB, pk) pp tv).2.2.1) (fun (_ : Unit) => (MW G mh md ((oTellL (nr, nc, pL, pG, pB, pk) pp tv).2.1.1) ((oTellL (nr, nc, pL, pG, pB, pk) pp tv).2.1.2.1) ((oTellL (nr, nc, pL, pG, pB, pk) pp tv).2.1.2.2.1) ((oTellL (nr, nc, pL, pG, pB, pk) pp tv).2.1.2.2.2.1) ((oTellL (nr, nc, pL, pG, pB, pk) pp tv).2.1.2.2.2.2.1) ((oTellL (nr, nc, pL, pG, pB, pk) pp tv).2.1.2.2.2.2.2) bf hi sv ch hs inp ty er (oWy (oTellL (nr, nc, pL, pG, pB, pk) pp tv) wy) (oWd (oTellL (nr, nc, pL, pG, pB, pk) pp tv) wd) (oRf (oTellL (nr, nc, pL, pG, pB, pk) pp tv) rf) lt ln (nI (oTellL (nr, nc, pL, pG, pB, pk) pp tv).1) tr mv fo sp wr td))) := by
  refine MM.of (by decide) (Nat.le_of_ble_eq_true rfl) ?_
  intro p e s m args below meth cd A C hini hA hK hZ hP hD ls hl
  generalize hQ : MQ below ((Qi_ G (fun (r : Int32) (_ : Unit) => r = (oTellL (nr, nc, pL, pG, pB, pk) pp tv).2.2.1) (fun (_ : Unit) => (MW G mh md ((oTellL (nr, nc, pL, pG, pB, pk) pp tv).2.1.1) ((oTellL (nr, nc, pL, pG, pB, pk) pp tv).2.1.2.1) ((oTellL (nr, nc, pL, pG, pB, pk) pp tv).2.1.2.2.1) ((oTellL (nr, nc, pL, pG, pB, pk) pp tv).2.1.2.2.2.1) ((oTellL (nr, nc, pL, pG, pB, pk) pp tv).2.1.2.2.2.2.1) ((oTellL (nr, nc, pL, pG, pB, pk) pp tv).2.1.2.2.2.2.2) bf hi sv ch hs inp ty er (oWy (oTellL (nr, nc, pL, pG, pB, pk) pp tv) wy) (oWd (oTellL (nr, nc, pL, pG, pB, pk) pp tv) wd) (oRf (oTellL (nr, nc, pL, pG, pB, pk) pp tv) rf) lt ln (nI (oTellL (nr, nc, pL, pG, pB, pk) pp tv).1) tr mv fo sp wr td))) A) args s (⟨1, 0, 0, 23⟩ : Room).cells (⟨1, 0, 0, 23⟩ : Room).slots A = Q
  obtain ⟨hx, hb, hr, hts, hown, hlk, hml⟩ := C
  have hown : s.vm.findClass RX5 = some m.cls := hown
  have hS : va_S A s.heap s.heap [] := va_S.rf
  have hl : lv_has ls 5 [(0, .ref mh), (1, .int (nI 14)), (2, .int (nI pp)), (3, .int (nI tv))] := hl
  have hmu := dm_mul hd
  have hl9 := hLR pp hp0
  refine lv_aload_n hx hb dX5_tells_0 rfl (lv_at hl 0 rfl) ?_
  refine va_get (D := G.1) (ci := 4) (v := .ref (md 0)) (C := RX5) (T := TX5) (N := 21) hx hb hts in_X5 hown hK hP 0 rfl rfl 0 (by decide) (hts _ q1727) (fun _ h9 => h9) rfl dX5_tells_1 ?_
  refine lv_iload_n hx hb dX5_tells_4 rfl (lv_at hl 1 rfl) ?_
  refine lv_iload_n hx hb dX5_tells_5 rfl (lv_at hl 2 rfl) ?_
  refine n_iadd hx hb dX5_tells_6 ?_
  refine r_iald hx hb hK hP 1 3 rfl rfl (by omega) (by decide) dX5_tells_7 ?_
  refine eq_i (y := nI (pL pp - 97)) (gZ_c (by omega)) ?_
  refine lv_istore (lv' := [(4, .int (nI (pL pp - 97))), (0, .ref mh), (1, .int (nI 14)), (2, .int (nI pp)), (3, .int (nI tv))]) hx hb dX5_tells_8 hl (by decide) rfl (fun ls hl => ?_)
  refine lv_iload hx hb dX5_tells_10 (lv_at hl 0 rfl) ?_
  refine lv_iload_n hx hb dX5_tells_12 rfl (lv_at hl 4 rfl) ?_
  refine n_cmp_ne (tgt := 24) hx hb dX5_tells_13 (by decide) (by omega) (by omega) (fun c13 => ?_) (fun c13 => ?_)
  · skip
    refine lv_aload_n hx hb dX5_tells_24 rfl (lv_at hl 1 rfl) ?_
    refine va_get (D := G.1) (ci := 4) (v := .ref (md 0)) (C := RX5) (T := TX5) (N := 21) hx hb hts in_X5 hown hK hP 0 rfl rfl 0 (by decide) (hts _ q1727) (fun _ h9 => h9) rfl dX5_tells_25 ?_
    refine lv_iload_n hx hb dX5_tells_28 rfl (lv_at hl 2 rfl) ?_
    refine lv_iload_n hx hb dX5_tells_29 rfl (lv_at hl 3 rfl) ?_
    refine n_iadd hx hb dX5_tells_30 ?_
    refine lv_iload_n hx hb dX5_tells_31 rfl (lv_at hl 4 rfl) ?_
    refine r_iast hx hb hK hP hD hS 1 3 rfl rfl (by omega) (by decide) dX5_tells_32 (fun H locs hP hD hS => ?_)
    rw [show va_up (gZ (nr, nc, pL, pG, pB, pk)) (14 + pp) (nI tv) = (gZ (nr, nc, (va_up pL pp (97 + tv)), pG, pB, pk)) from (gZ_sc (by omega))] at hP hD
    have hP : va_P G.1 CL (MW G mh md nr nc (va_up pL pp (97 + tv)) pG pB pk bf hi sv ch hs inp ty er wy wd rf lt ln th tr mv fo sp wr td) _ := hP
    have hD : va_D A (MW G mh md nr nc (va_up pL pp (97 + tv)) pG pB pk bf hi sv ch hs inp ty er wy wd rf lt ln th tr mv fo sp wr td) := hD
    refine lv_aload_n hx hb dX5_tells_33 rfl (lv_at hl 1 rfl) ?_
    refine lv_iload hx hb dX5_tells_34 (lv_at hl 0 rfl) ?_
    refine callSi (As := [.int (nI (pL pp - 97))]) (rest := [.ref mh]) (wc := ([] : va_W)) (wr := (MW G mh md nr nc (va_up pL pp (97 + tv)) pG pB pk bf hi sv ch hs inp ty er wy wd rf lt ln th tr mv fo sp wr td)) ⟨hx, hb, hml, hown, hts⟩ (m_X5_signOf l G (nI (pL pp - 97)) (pL pp) (show gk (pL pp) = nI (pL pp - 97) from if_neg (by omega)) (Or.inr hl9)) (va_cwS 1 hts (lw_S q1852 q1853 q105 q1854) rfl rfl rfl (by decide +kernel) ⟨Nat.le_of_ble_eq_true rfl, Nat.le_of_ble_eq_true rfl⟩) hK hZ hA hP hD hS [] [0, 1, 2, 3, 4, 5, 6, 7, 8, 9] rfl rfl (by decide) (by decide) (by decide) rfl hl.1 (Nat.le_of_ble_eq_true rfl) ⟨Nat.le_of_ble_eq_true rfl, Nat.le_of_ble_eq_true rfl⟩ rfl dX5_tells_36 (fun r9 u9 H locs hw9 hP hD hS => ?_)
    subst hw9
    have hP : va_P G.1 CL (MW G mh md nr nc (va_up pL pp (97 + tv)) pG pB pk bf hi sv ch hs inp ty er wy wd rf lt ln th tr mv fo sp wr td) _ := hP
    have hD : va_D A (MW G mh md nr nc (va_up pL pp (97 + tv)) pG pB pk bf hi sv ch hs inp ty er wy wd rf lt ln th tr mv fo sp wr td) := hD
    refine callVi (As := [.int (nI (pL pp))]) (rest := []) (wc := (MW G mh md nr nc (va_up pL pp (97 + tv)) pG pB pk bf hi sv ch hs inp ty er wy wd rf lt ln th tr mv fo sp wr td)) (wr := ([] : va_W)) ⟨hx, hb, hml, hown, hts⟩ (m_X5_done l G mh md nr nc (va_up pL pp (97 + tv)) pG pB pk bf hi sv ch hs inp ty er wy wd rf lt ln th tr mv fo sp wr td (nI (pL pp)) ) (cwV 1 hts (lw_V q1821 q1823 qs39 q105 q1824) rfl rfl rfl (by decide +kernel) ⟨Nat.le_of_ble_eq_true rfl, Nat.le_of_ble_eq_true rfl⟩) hK hZ hA hP hD hS [0, 1, 2, 3, 4, 5, 6, 7, 8, 9] [] rfl rfl (by decide) (by decide) (by decide) 0 4 rfl rfl rfl hl.1 (Nat.le_of_ble_eq_true rfl) ⟨Nat.le_of_ble_eq_true rfl, Nat.le_of_ble_eq_true rfl⟩ rfl dX5_tells_39 (fun r9 u9 H locs hw9 hP hD hS => ?_)
    subst hw9
    have hP : va_P G.1 CL (MW G mh md nr nc (va_up pL pp (97 + tv)) pG pB pk bf hi sv ch hs inp ty er wy wd rf lt ln (nI 0) tr mv fo sp wr td) _ := hP
    have hD : va_D A (MW G mh md nr nc (va_up pL pp (97 + tv)) pG pB pk bf hi sv ch hs inp ty er wy wd rf lt ln (nI 0) tr mv fo sp wr td) := hD
    subst hQ
    rw [show oTellL (nr, nc, pL, pG, pB, pk) pp tv = (0, (nr, nc, (va_up pL pp (97 + tv)), pG, pB, pk), (nI (pL pp)), none) from (if_neg (show ¬ pL pp = 97 + tv by omega))]
    exact ret_i hx hb hr hlk () rfl hP hD hS rfl dX5_tells_42
  · skip
    refine lv_aload_n hx hb dX5_tells_16 rfl (lv_at hl 1 rfl) ?_
    refine lv_iconst (v := nI 2) hx hb dX5_tells_17 (by decide) ?_
    refine lv_iload_n hx hb dX5_tells_18 rfl (lv_at hl 3 rfl) ?_
    refine lv_iconst (v := nI 3) hx hb dX5_tells_19 (by decide) ?_
    refine callVi (As := [.int (nI 2), .int (nI pp), .int (nI 3)]) (rest := []) (wc := (MW G mh md nr nc pL pG pB pk bf hi sv ch hs inp ty er wy wd rf lt ln th tr mv fo sp wr td)) (wr := ([] : va_W)) ⟨hx, hb, hml, hown, hts⟩ (m_X5_refused l G mh md nr nc pL pG pB pk bf hi sv ch hs inp ty er wy wd rf lt ln th tr mv fo sp wr td (nI 2) (nI pp) (nI 3) ) (cwV 3 hts (lw_V q1848 q1850 qs44 q105 q1851) rfl rfl rfl (by decide +kernel) ⟨Nat.le_of_ble_eq_true rfl, Nat.le_of_ble_eq_true rfl⟩) hK hZ hA hP hD hS [0, 1, 2, 3, 4, 5, 6, 7, 8, 9] [] rfl rfl (by decide) (by decide) (by decide) 0 4 rfl rfl rfl hl.1 (Nat.le_of_ble_eq_true rfl) ⟨Nat.le_of_ble_eq_true rfl, Nat.le_of_ble_eq_true rfl⟩ rfl dX5_tells_20 (fun r9 u9 H locs hw9 hP hD hS => ?_)
    subst hw9
    have hP : va_P G.1 CL (MW G mh md nr nc pL pG pB pk bf hi sv ch hs inp ty er (nI 2) (nI pp) true lt ln (nI 3) tr mv fo sp wr td) _ := hP
    have hD : va_D A (MW G mh md nr nc pL pG pB pk bf hi sv ch hs inp ty er (nI 2) (nI pp) true lt ln (nI 3) tr mv fo sp wr td) := hD
    subst hQ
    rw [show oTellL (nr, nc, pL, pG, pB, pk) pp tv = (3, (nr, nc, pL, pG, pB, pk), nI 0, some ((nI 2), (nI pp))) from (if_pos (show pL pp = 97 + tv by omega))]
    exact ret_i hx hb hr hlk () rfl hP hD hS rfl dX5_tells_23
set_option maxHeartbeats 4000000 in
set_option maxRecDepth 100000 in
theorem m_X5_tells__G (l : Launch) (G : GG) (mh : Nat) (md : Nat → Nat) (nr : Nat) (nc : Nat) (pL : Nat → Nat) (pG : Nat → Nat) (pB : Nat → Bool) (pk : Nat → Int32) (bf : Nat → Int32) (hi : Nat → Int32) (sv : Nat → Int32) (ch : Nat) (hs : Bool) (inp : Nat → Nat) (ty : Nat) (er : Int32) (wy : Int32) (wd : Int32) (rf : Bool) (lt : Nat → Nat) (ln : Nat) (th : Int32) (tr : Nat → Nat) (mv : Nat → Nat) (fo : Int32) (sp : Nat) (wr : Bool) (td : Nat → Int32) (pp : Nat) (tv : Int32) (tw : Nat) (hd : 2 ≤ nr ∧ nr ≤ 3 ∧ 2 ≤ nc ∧ nc ≤ 3) (hp0 : pp < nr * nc) (htv : tv = gk tw) (htw : tw = 46 ∨ (97 ≤ tw ∧ tw ≤ 108)) (hKR : ∀ q, q < nr * nc → pG q = 46 ∨ (97 ≤ pG q ∧ pG q ≤ 108)) : MM l G yX5_tells cX5_tells 5 (some .int) ⟨1, 0, 0, 23⟩ [.ref mh, .int (nI 23), .int (nI pp), .int tv] (MW G mh md nr nc pL pG pB pk bf hi sv ch hs inp ty er wy wd rf lt ln th tr mv fo sp wr td) (Qi_ G (fun (r : Int32) (_ : Unit) => r = (oTellG (nr, nc, pL, pG, pB, pk) pp tw).2.2.1) (fun (_ : Unit) => (MW G mh md ((oTellG (nr, nc, pL, pG, pB, pk) pp tw).2.1.1) ((oTellG (nr, nc, pL, pG, pB, pk) pp tw).2.1.2.1) ((oTellG (nr, nc, pL, pG, pB, pk) pp tw).2.1.2.2.1) ((oTellG (nr, nc, pL, pG, pB, pk) pp tw).2.1.2.2.2.1) ((oTellG (nr, nc, pL, pG, pB, pk) pp tw).2.1.2.2.2.2.1) ((oTellG (nr, nc, pL, pG, pB, pk) pp tw).2.1.2.2.2.2.2) bf hi sv ch hs inp ty er (oWy (oTellG (nr, nc, pL, pG, pB, pk) pp tw) wy) (oWd (oTellG (nr, nc, pL, pG, pB, pk) pp tw) wd) (oRf (oTellG (nr, nc, pL, pG, pB, pk) pp tw) rf) lt ln (nI (oTellG (nr, nc, pL, pG, pB, pk) pp tw).1) tr mv fo sp wr td))) := by
  refine MM.of (by decide) (Nat.le_of_ble_eq_true rfl) ?_
  intro p e s m args below meth cd A C hini hA hK hZ hP hD ls hl
  generalize hQ : MQ below ((Qi_ G (fun (r : Int32) (_ : Unit) => r = (oTellG (nr, nc, pL, pG, pB, pk) pp tw).2.2.1) (fun (_ : Unit) => (MW G mh md ((oTellG (nr, nc, pL, pG, pB, pk) pp tw).2.1.1) ((oTellG (nr, nc, pL, pG, pB, pk) pp tw).2.1.2.1) ((oTellG (nr, nc, pL, pG, pB, pk) pp tw).2.1.2.2.1) ((oTellG (nr, nc, pL, pG, pB, pk) pp tw).2.1.2.2.2.1) ((oTellG (nr, nc, pL, pG, pB, pk) pp tw).2.1.2.2.2.2.1) ((oTellG (nr, nc, pL, pG, pB, pk) pp tw).2.1.2.2.2.2.2) bf hi sv ch hs inp ty er (oWy (oTellG (nr, nc, pL, pG, pB, pk) pp tw) wy) (oWd (oTellG (nr, nc, pL, pG, pB, pk) pp tw) wd) (oRf (oTellG (nr, nc, pL, pG, pB, pk) pp tw) rf) lt ln (nI (oTellG (nr, nc, pL, pG, pB, pk) pp tw).1) tr mv fo sp wr td))) A) args s (⟨1, 0, 0, 23⟩ : Room).cells (⟨1, 0, 0, 23⟩ : Room).slots A = Q
  obtain ⟨hx, hb, hr, hts, hown, hlk, hml⟩ := C
  have hown : s.vm.findClass RX5 = some m.cls := hown
  have hS : va_S A s.heap s.heap [] := va_S.rf
  have hl : lv_has ls 5 [(0, .ref mh), (1, .int (nI 23)), (2, .int (nI pp)), (3, .int tv)] := hl
  have hmu := dm_mul hd
  have hk9 := hKR pp hp0
  refine lv_aload_n hx hb dX5_tells_0 rfl (lv_at hl 0 rfl) ?_
  refine va_get (D := G.1) (ci := 4) (v := .ref (md 0)) (C := RX5) (T := TX5) (N := 21) hx hb hts in_X5 hown hK hP 0 rfl rfl 0 (by decide) (hts _ q1727) (fun _ h9 => h9) rfl dX5_tells_1 ?_
  refine lv_iload_n hx hb dX5_tells_4 rfl (lv_at hl 1 rfl) ?_
  refine lv_iload_n hx hb dX5_tells_5 rfl (lv_at hl 2 rfl) ?_
  refine n_iadd hx hb dX5_tells_6 ?_
  refine r_iald hx hb hK hP 1 3 rfl rfl (by omega) (by decide) dX5_tells_7 ?_
  refine eq_i (y := (gk (pG pp))) (gZ_k (by omega)) ?_
  refine lv_istore (lv' := [(4, .int (gk (pG pp))), (0, .ref mh), (1, .int (nI 23)), (2, .int (nI pp)), (3, .int tv)]) hx hb dX5_tells_8 hl (by decide) rfl (fun ls hl => ?_)
  refine lv_iload hx hb dX5_tells_10 (lv_at hl 0 rfl) ?_
  refine lv_iload_n hx hb dX5_tells_12 rfl (lv_at hl 4 rfl) ?_
  refine lv_icmp_ne (tgt := 24) hx hb dX5_tells_13 (by decide) (fun c13 => ?_) (fun c13 => ?_)
  · skip
    refine lv_aload_n hx hb dX5_tells_24 rfl (lv_at hl 1 rfl) ?_
    refine va_get (D := G.1) (ci := 4) (v := .ref (md 0)) (C := RX5) (T := TX5) (N := 21) hx hb hts in_X5 hown hK hP 0 rfl rfl 0 (by decide) (hts _ q1727) (fun _ h9 => h9) rfl dX5_tells_25 ?_
    refine lv_iload_n hx hb dX5_tells_28 rfl (lv_at hl 2 rfl) ?_
    refine lv_iload_n hx hb dX5_tells_29 rfl (lv_at hl 3 rfl) ?_
    refine n_iadd hx hb dX5_tells_30 ?_
    refine lv_iload_n hx hb dX5_tells_31 rfl (lv_at hl 4 rfl) ?_
    refine r_iast hx hb hK hP hD hS 1 3 rfl rfl (by omega) (by decide) dX5_tells_32 (fun H locs hP hD hS => ?_)
    rw [show va_up (gZ (nr, nc, pL, pG, pB, pk)) (23 + pp) tv = (gZ (nr, nc, pL, (va_up pG pp tw), pB, pk)) from (gZ_sg (by omega) htv.symm)] at hP hD
    have hP : va_P G.1 CL (MW G mh md nr nc pL (va_up pG pp tw) pB pk bf hi sv ch hs inp ty er wy wd rf lt ln th tr mv fo sp wr td) _ := hP
    have hD : va_D A (MW G mh md nr nc pL (va_up pG pp tw) pB pk bf hi sv ch hs inp ty er wy wd rf lt ln th tr mv fo sp wr td) := hD
    refine lv_aload_n hx hb dX5_tells_33 rfl (lv_at hl 1 rfl) ?_
    refine lv_iload hx hb dX5_tells_34 (lv_at hl 0 rfl) ?_
    refine callSi (As := [.int (gk (pG pp))]) (rest := [.ref mh]) (wc := ([] : va_W)) (wr := (MW G mh md nr nc pL (va_up pG pp tw) pB pk bf hi sv ch hs inp ty er wy wd rf lt ln th tr mv fo sp wr td)) ⟨hx, hb, hml, hown, hts⟩ (m_X5_signOf l G (gk (pG pp)) (pG pp) rfl hk9) (va_cwS 1 hts (lw_S q1852 q1853 q105 q1854) rfl rfl rfl (by decide +kernel) ⟨Nat.le_of_ble_eq_true rfl, Nat.le_of_ble_eq_true rfl⟩) hK hZ hA hP hD hS [] [0, 1, 2, 3, 4, 5, 6, 7, 8, 9] rfl rfl (by decide) (by decide) (by decide) rfl hl.1 (Nat.le_of_ble_eq_true rfl) ⟨Nat.le_of_ble_eq_true rfl, Nat.le_of_ble_eq_true rfl⟩ rfl dX5_tells_36 (fun r9 u9 H locs hw9 hP hD hS => ?_)
    subst hw9
    have hP : va_P G.1 CL (MW G mh md nr nc pL (va_up pG pp tw) pB pk bf hi sv ch hs inp ty er wy wd rf lt ln th tr mv fo sp wr td) _ := hP
    have hD : va_D A (MW G mh md nr nc pL (va_up pG pp tw) pB pk bf hi sv ch hs inp ty er wy wd rf lt ln th tr mv fo sp wr td) := hD
    refine callVi (As := [.int (nI (pG pp))]) (rest := []) (wc := (MW G mh md nr nc pL (va_up pG pp tw) pB pk bf hi sv ch hs inp ty er wy wd rf lt ln th tr mv fo sp wr td)) (wr := ([] : va_W)) ⟨hx, hb, hml, hown, hts⟩ (m_X5_done l G mh md nr nc pL (va_up pG pp tw) pB pk bf hi sv ch hs inp ty er wy wd rf lt ln th tr mv fo sp wr td (nI (pG pp)) ) (cwV 1 hts (lw_V q1821 q1823 qs39 q105 q1824) rfl rfl rfl (by decide +kernel) ⟨Nat.le_of_ble_eq_true rfl, Nat.le_of_ble_eq_true rfl⟩) hK hZ hA hP hD hS [0, 1, 2, 3, 4, 5, 6, 7, 8, 9] [] rfl rfl (by decide) (by decide) (by decide) 0 4 rfl rfl rfl hl.1 (Nat.le_of_ble_eq_true rfl) ⟨Nat.le_of_ble_eq_true rfl, Nat.le_of_ble_eq_true rfl⟩ rfl dX5_tells_39 (fun r9 u9 H locs hw9 hP hD hS => ?_)
    subst hw9
    have hP : va_P G.1 CL (MW G mh md nr nc pL (va_up pG pp tw) pB pk bf hi sv ch hs inp ty er wy wd rf lt ln (nI 0) tr mv fo sp wr td) _ := hP
    have hD : va_D A (MW G mh md nr nc pL (va_up pG pp tw) pB pk bf hi sv ch hs inp ty er wy wd rf lt ln (nI 0) tr mv fo sp wr td) := hD
    subst hQ
    rw [show oTellG (nr, nc, pL, pG, pB, pk) pp tw = (0, (nr, nc, pL, (va_up pG pp tw), pB, pk), (nI (pG pp)), none) from (if_neg (fun e => c13 ((congrArg gk e).trans htv.symm)))]
    exact ret_i hx hb hr hlk () rfl hP hD hS rfl dX5_tells_42
  · skip
    refine lv_aload_n hx hb dX5_tells_16 rfl (lv_at hl 1 rfl) ?_
    refine lv_iconst (v := nI 2) hx hb dX5_tells_17 (by decide) ?_
    refine lv_iload_n hx hb dX5_tells_18 rfl (lv_at hl 3 rfl) ?_
    refine lv_iconst (v := nI 3) hx hb dX5_tells_19 (by decide) ?_
    refine callVi (As := [.int (nI 2), .int (nI pp), .int (nI 3)]) (rest := []) (wc := (MW G mh md nr nc pL pG pB pk bf hi sv ch hs inp ty er wy wd rf lt ln th tr mv fo sp wr td)) (wr := ([] : va_W)) ⟨hx, hb, hml, hown, hts⟩ (m_X5_refused l G mh md nr nc pL pG pB pk bf hi sv ch hs inp ty er wy wd rf lt ln th tr mv fo sp wr td (nI 2) (nI pp) (nI 3) ) (cwV 3 hts (lw_V q1848 q1850 qs44 q105 q1851) rfl rfl rfl (by decide +kernel) ⟨Nat.le_of_ble_eq_true rfl, Nat.le_of_ble_eq_true rfl⟩) hK hZ hA hP hD hS [0, 1, 2, 3, 4, 5, 6, 7, 8, 9] [] rfl rfl (by decide) (by decide) (by decide) 0 4 rfl rfl rfl hl.1 (Nat.le_of_ble_eq_true rfl) ⟨Nat.le_of_ble_eq_true rfl, Nat.le_of_ble_eq_true rfl⟩ rfl dX5_tells_20 (fun r9 u9 H locs hw9 hP hD hS => ?_)
    subst hw9
    have hP : va_P G.1 CL (MW G mh md nr nc pL pG pB pk bf hi sv ch hs inp ty er (nI 2) (nI pp) true lt ln (nI 3) tr mv fo sp wr td) _ := hP
    have hD : va_D A (MW G mh md nr nc pL pG pB pk bf hi sv ch hs inp ty er (nI 2) (nI pp) true lt ln (nI 3) tr mv fo sp wr td) := hD
    subst hQ
    rw [show oTellG (nr, nc, pL, pG, pB, pk) pp tw = (3, (nr, nc, pL, pG, pB, pk), nI 0, some ((nI 2), (nI pp))) from (if_pos ((gk_eq hk9 htw).mp (c13.trans htv)))]
    exact ret_i hx hb hr hlk () rfl hP hD hS rfl dX5_tells_23
set_option maxHeartbeats 4000000 in
set_option maxRecDepth 100000 in
theorem m_X5_puts (l : Launch) (G : GG) (mh : Nat) (md : Nat → Nat) (nr : Nat) (nc : Nat) (pL : Nat → Nat) (pG : Nat → Nat) (pB : Nat → Bool) (pk : Nat → Int32) (bf : Nat → Int32) (hi : Nat → Int32) (sv : Nat → Int32) (ch : Nat) (hs : Bool) (inp : Nat → Nat) (ty : Nat) (er : Int32) (wy : Int32) (wd : Int32) (rf : Bool) (lt : Nat → Nat) (ln : Nat) (th : Int32) (tr : Nat → Nat) (mv : Nat → Nat) (fo : Int32) (sp : Nat) (wr : Bool) (td : Nat → Int32) (pa : Int32) (pc : Int32) (hd : 2 ≤ nr ∧ nr ≤ 3 ∧ 2 ≤ nc ∧ nc ≤ 3) (hLR : ∀ q, q < nr * nc → 97 ≤ pL q ∧ pL q ≤ 108) : MM l G yX5_puts cX5_puts 3 (some .int) ⟨2, 0, 0, 47⟩ [.ref mh, .int pa, .int pc] (MW G mh md nr nc pL pG pB pk bf hi sv ch hs inp ty er wy wd rf lt ln th tr mv fo sp wr td) (Qi_ G (fun (r : Int32) (_ : Unit) => r = (oPut (nr, nc, pL, pG, pB, pk) pa pc).2.2.1) (fun (_ : Unit) => (MW G mh md ((oPut (nr, nc, pL, pG, pB, pk) pa pc).2.1.1) ((oPut (nr, nc, pL, pG, pB, pk) pa pc).2.1.2.1) ((oPut (nr, nc, pL, pG, pB, pk) pa pc).2.1.2.2.1) ((oPut (nr, nc, pL, pG, pB, pk) pa pc).2.1.2.2.2.1) ((oPut (nr, nc, pL, pG, pB, pk) pa pc).2.1.2.2.2.2.1) ((oPut (nr, nc, pL, pG, pB, pk) pa pc).2.1.2.2.2.2.2) bf hi sv ch hs inp ty er (oWy (oPut (nr, nc, pL, pG, pB, pk) pa pc) wy) (oWd (oPut (nr, nc, pL, pG, pB, pk) pa pc) wd) (oRf (oPut (nr, nc, pL, pG, pB, pk) pa pc) rf) lt ln (nI (oPut (nr, nc, pL, pG, pB, pk) pa pc).1) tr mv fo sp wr td))) := by
  refine MM.of (by decide) (Nat.le_of_ble_eq_true rfl) ?_
  intro p e s m args below meth cd A C hini hA hK hZ hP hD ls hl
  generalize hQ : MQ below ((Qi_ G (fun (r : Int32) (_ : Unit) => r = (oPut (nr, nc, pL, pG, pB, pk) pa pc).2.2.1) (fun (_ : Unit) => (MW G mh md ((oPut (nr, nc, pL, pG, pB, pk) pa pc).2.1.1) ((oPut (nr, nc, pL, pG, pB, pk) pa pc).2.1.2.1) ((oPut (nr, nc, pL, pG, pB, pk) pa pc).2.1.2.2.1) ((oPut (nr, nc, pL, pG, pB, pk) pa pc).2.1.2.2.2.1) ((oPut (nr, nc, pL, pG, pB, pk) pa pc).2.1.2.2.2.2.1) ((oPut (nr, nc, pL, pG, pB, pk) pa pc).2.1.2.2.2.2.2) bf hi sv ch hs inp ty er (oWy (oPut (nr, nc, pL, pG, pB, pk) pa pc) wy) (oWd (oPut (nr, nc, pL, pG, pB, pk) pa pc) wd) (oRf (oPut (nr, nc, pL, pG, pB, pk) pa pc) rf) lt ln (nI (oPut (nr, nc, pL, pG, pB, pk) pa pc).1) tr mv fo sp wr td))) A) args s (⟨2, 0, 0, 47⟩ : Room).cells (⟨2, 0, 0, 47⟩ : Room).slots A = Q
  obtain ⟨hx, hb, hr, hts, hown, hlk, hml⟩ := C
  have hown : s.vm.findClass RX5 = some m.cls := hown
  have hS : va_S A s.heap s.heap [] := va_S.rf
  have hl : lv_has ls 3 [(0, .ref mh), (1, .int pa), (2, .int pc)] := hl
  have hmu := dm_mul hd
  refine lv_aload_n hx hb dX5_puts_0 rfl (lv_at hl 0 rfl) ?_
  refine lv_iload_n hx hb dX5_puts_1 rfl (lv_at hl 1 rfl) ?_
  refine callVi (As := [.int pa]) (rest := []) (wc := (MW G mh md nr nc pL pG pB pk bf hi sv ch hs inp ty er wy wd rf lt ln th tr mv fo sp wr td)) (wr := ([] : va_W)) ⟨hx, hb, hml, hown, hts⟩ (m_X5_isPlace l G mh md nr nc pL pG pB pk bf hi sv ch hs inp ty er wy wd rf lt ln th tr mv fo sp wr td pa (by first | assumption | omega)) (cwV 1 hts (lw_V q1837 q1839 qs42 q105 q1840) rfl rfl rfl (by decide +kernel) ⟨Nat.le_of_ble_eq_true rfl, Nat.le_of_ble_eq_true rfl⟩) hK hZ hA hP hD hS [0, 1, 2, 3, 4, 5, 6, 7, 8, 9] [] rfl rfl (by decide) (by decide) (by decide) 0 4 rfl rfl rfl hl.1 (Nat.le_of_ble_eq_true rfl) ⟨Nat.le_of_ble_eq_true rfl, Nat.le_of_ble_eq_true rfl⟩ rfl dX5_puts_2 (fun r9 u9 H locs hw9 hP hD hS => ?_)
  subst hw9
  have hP : va_P G.1 CL (MW G mh md nr nc pL pG pB pk bf hi sv ch hs inp ty er wy wd rf lt ln th tr mv fo sp wr td) _ := hP
  have hD : va_D A (MW G mh md nr nc pL pG pB pk bf hi sv ch hs inp ty er wy wd rf lt ln th tr mv fo sp wr td) := hD
  refine b_if_ne (tgt := 14) hx hb dX5_puts_5 (by decide) (fun c5 => ?_) (fun c5 => ?_)
  · skip
    refine lv_iload_n hx hb dX5_puts_14 rfl (lv_at hl 2 rfl) ?_
    refine callSi (As := [.int pc]) (rest := []) (wc := ([] : va_W)) (wr := (MW G mh md nr nc pL pG pB pk bf hi sv ch hs inp ty er wy wd rf lt ln th tr mv fo sp wr td)) ⟨hx, hb, hml, hown, hts⟩ (m_X5_isLetter l G pc ) (va_cwS 1 hts (lw_S q1841 q1842 q105 q1843) rfl rfl rfl (by decide +kernel) ⟨Nat.le_of_ble_eq_true rfl, Nat.le_of_ble_eq_true rfl⟩) hK hZ hA hP hD hS [] [0, 1, 2, 3, 4, 5, 6, 7, 8, 9] rfl rfl (by decide) (by decide) (by decide) rfl hl.1 (Nat.le_of_ble_eq_true rfl) ⟨Nat.le_of_ble_eq_true rfl, Nat.le_of_ble_eq_true rfl⟩ rfl dX5_puts_15 (fun r9 u9 H locs hw9 hP hD hS => ?_)
    subst hw9
    have hP : va_P G.1 CL (MW G mh md nr nc pL pG pB pk bf hi sv ch hs inp ty er wy wd rf lt ln th tr mv fo sp wr td) _ := hP
    have hD : va_D A (MW G mh md nr nc pL pG pB pk bf hi sv ch hs inp ty er wy wd rf lt ln th tr mv fo sp wr td) := hD
    refine b_if_eq (tgt := 35) hx hb dX5_puts_18 (by decide) (fun c18 => ?_) (fun c18 => ?_)
    · skip
      refine lv_aload_n hx hb dX5_puts_35 rfl (lv_at hl 0 rfl) ?_
      refine lv_iconst (v := nI 2) hx hb dX5_puts_36 (by decide) ?_
      refine callVi (As := [.int (nI 2)]) (rest := []) (wc := (MW G mh md nr nc pL pG pB pk bf hi sv ch hs inp ty er wy wd rf lt ln th tr mv fo sp wr td)) (wr := ([] : va_W)) ⟨hx, hb, hml, hown, hts⟩ (m_X5_fails l G mh md nr nc pL pG pB pk bf hi sv ch hs inp ty er wy wd rf lt ln th tr mv fo sp wr td (nI 2) ) (cwV 1 hts (lw_V q1813 q1815 qs37 q105 q1816) rfl rfl rfl (by decide +kernel) ⟨Nat.le_of_ble_eq_true rfl, Nat.le_of_ble_eq_true rfl⟩) hK hZ hA hP hD hS [0, 1, 2, 3, 4, 5, 6, 7, 8, 9] [] rfl rfl (by decide) (by decide) (by decide) 0 4 rfl rfl rfl hl.1 (Nat.le_of_ble_eq_true rfl) ⟨Nat.le_of_ble_eq_true rfl, Nat.le_of_ble_eq_true rfl⟩ rfl dX5_puts_37 (fun r9 u9 H locs hw9 hP hD hS => ?_)
      subst hw9
      have hP : va_P G.1 CL (MW G mh md nr nc pL pG pB pk bf hi sv ch hs inp ty er wy wd false lt ln (nI 2) tr mv fo sp wr td) _ := hP
      have hD : va_D A (MW G mh md nr nc pL pG pB pk bf hi sv ch hs inp ty er wy wd false lt ln (nI 2) tr mv fo sp wr td) := hD
      subst hQ
      rw [show oPut (nr, nc, pL, pG, pB, pk) pa pc = (2, (nr, nc, pL, pG, pB, pk), nI 0, none) from (by unfold oPut; rw [if_pos c5, if_neg (by rw [c18]; decide)])]
      exact ret_i hx hb hr hlk () rfl hP hD hS rfl dX5_puts_40
    · skip
      obtain ⟨ka, hka, rfl⟩ := isIx_t c5 (by omega)
      obtain ⟨kc, hkc1, hkc2, rfl⟩ := inR_nI c18 (by decide) (by decide)
      refine lv_aload_n hx hb dX5_puts_21 rfl (lv_at hl 0 rfl) ?_
      refine lv_bipush (v := nI 14) hx hb dX5_puts_22 (by decide) ?_
      refine lv_iload_n hx hb dX5_puts_24 rfl (lv_at hl 1 rfl) ?_
      refine lv_iload_n hx hb dX5_puts_25 rfl (lv_at hl 2 rfl) ?_
      refine lv_bipush (v := nI 97) hx hb dX5_puts_26 (by decide) ?_
      refine n_isub hx hb (by omega) dX5_puts_28 ?_
      refine callVi (As := [.int (nI 14), .int (nI ka), .int (nI (kc - 97))]) (rest := []) (wc := (MW G mh md nr nc pL pG pB pk bf hi sv ch hs inp ty er wy wd rf lt ln th tr mv fo sp wr td)) (wr := ([] : va_W)) ⟨hx, hb, hml, hown, hts⟩ (m_X5_tells__L l G mh md nr nc pL pG pB pk bf hi sv ch hs inp ty er wy wd rf lt ln th tr mv fo sp wr td ka (kc - 97) (by first | assumption | omega) (by first | assumption | omega) (by first | assumption | omega) (by first | assumption | omega)) (cwV 3 hts (lw_V q1844 q1846 qs43 q105 q1847) rfl rfl rfl (by decide +kernel) ⟨Nat.le_of_ble_eq_true rfl, Nat.le_of_ble_eq_true rfl⟩) hK hZ hA hP hD hS [0, 1, 2, 3, 4, 5, 6, 7, 8, 9] [] rfl rfl (by decide) (by decide) (by decide) 0 4 rfl rfl rfl hl.1 (Nat.le_of_ble_eq_true rfl) ⟨Nat.le_of_ble_eq_true rfl, Nat.le_of_ble_eq_true rfl⟩ rfl dX5_puts_29 (fun r9 u9 H locs hw9 hP hD hS => ?_)
      subst hw9
      have hP : va_P G.1 CL (MW G mh md ((oTellL (nr, nc, pL, pG, pB, pk) ka (kc - 97)).2.1.1) ((oTellL (nr, nc, pL, pG, pB, pk) ka (kc - 97)).2.1.2.1) ((oTellL (nr, nc, pL, pG, pB, pk) ka (kc - 97)).2.1.2.2.1) ((oTellL (nr, nc, pL, pG, pB, pk) ka (kc - 97)).2.1.2.2.2.1) ((oTellL (nr, nc, pL, pG, pB, pk) ka (kc - 97)).2.1.2.2.2.2.1) ((oTellL (nr, nc, pL, pG, pB, pk) ka (kc - 97)).2.1.2.2.2.2.2) bf hi sv ch hs inp ty er (oWy (oTellL (nr, nc, pL, pG, pB, pk) ka (kc - 97)) wy) (oWd (oTellL (nr, nc, pL, pG, pB, pk) ka (kc - 97)) wd) (oRf (oTellL (nr, nc, pL, pG, pB, pk) ka (kc - 97)) rf) lt ln (nI (oTellL (nr, nc, pL, pG, pB, pk) ka (kc - 97)).1) tr mv fo sp wr td) _ := hP
      have hD : va_D A (MW G mh md ((oTellL (nr, nc, pL, pG, pB, pk) ka (kc - 97)).2.1.1) ((oTellL (nr, nc, pL, pG, pB, pk) ka (kc - 97)).2.1.2.1) ((oTellL (nr, nc, pL, pG, pB, pk) ka (kc - 97)).2.1.2.2.1) ((oTellL (nr, nc, pL, pG, pB, pk) ka (kc - 97)).2.1.2.2.2.1) ((oTellL (nr, nc, pL, pG, pB, pk) ka (kc - 97)).2.1.2.2.2.2.1) ((oTellL (nr, nc, pL, pG, pB, pk) ka (kc - 97)).2.1.2.2.2.2.2) bf hi sv ch hs inp ty er (oWy (oTellL (nr, nc, pL, pG, pB, pk) ka (kc - 97)) wy) (oWd (oTellL (nr, nc, pL, pG, pB, pk) ka (kc - 97)) wd) (oRf (oTellL (nr, nc, pL, pG, pB, pk) ka (kc - 97)) rf) lt ln (nI (oTellL (nr, nc, pL, pG, pB, pk) ka (kc - 97)).1) tr mv fo sp wr td) := hD
      refine lv_goto (tgt := 40) hx hb dX5_puts_32 (by decide) ?_
      subst hQ
      rw [show oPut (nr, nc, pL, pG, pB, pk) (nI ka) (nI kc) = oTellL (nr, nc, pL, pG, pB, pk) ka (kc - 97) from (by unfold oPut oTellL; rw [if_pos c5, if_pos c18, cl_n (by omega), cl_n (by omega), show 97 + (kc - 97) = kc by omega])]
      exact ret_i hx hb hr hlk () rfl hP hD hS rfl dX5_puts_40
  · skip
    refine lv_aload_n hx hb dX5_puts_8 rfl (lv_at hl 0 rfl) ?_
    refine lv_iconst (v := nI 1) hx hb dX5_puts_9 (by decide) ?_
    refine callVi (As := [.int (nI 1)]) (rest := []) (wc := (MW G mh md nr nc pL pG pB pk bf hi sv ch hs inp ty er wy wd rf lt ln th tr mv fo sp wr td)) (wr := ([] : va_W)) ⟨hx, hb, hml, hown, hts⟩ (m_X5_fails l G mh md nr nc pL pG pB pk bf hi sv ch hs inp ty er wy wd rf lt ln th tr mv fo sp wr td (nI 1) ) (cwV 1 hts (lw_V q1813 q1815 qs37 q105 q1816) rfl rfl rfl (by decide +kernel) ⟨Nat.le_of_ble_eq_true rfl, Nat.le_of_ble_eq_true rfl⟩) hK hZ hA hP hD hS [0, 1, 2, 3, 4, 5, 6, 7, 8, 9] [] rfl rfl (by decide) (by decide) (by decide) 0 4 rfl rfl rfl hl.1 (Nat.le_of_ble_eq_true rfl) ⟨Nat.le_of_ble_eq_true rfl, Nat.le_of_ble_eq_true rfl⟩ rfl dX5_puts_10 (fun r9 u9 H locs hw9 hP hD hS => ?_)
    subst hw9
    have hP : va_P G.1 CL (MW G mh md nr nc pL pG pB pk bf hi sv ch hs inp ty er wy wd false lt ln (nI 1) tr mv fo sp wr td) _ := hP
    have hD : va_D A (MW G mh md nr nc pL pG pB pk bf hi sv ch hs inp ty er wy wd false lt ln (nI 1) tr mv fo sp wr td) := hD
    subst hQ
    rw [show oPut (nr, nc, pL, pG, pB, pk) pa pc = (1, (nr, nc, pL, pG, pB, pk), nI 0, none) from (if_neg (by rw [c5]; decide))]
    exact ret_i hx hb hr hlk () rfl hP hD hS rfl dX5_puts_13
set_option maxHeartbeats 4000000 in
set_option maxRecDepth 100000 in
theorem m_X5_goals (l : Launch) (G : GG) (mh : Nat) (md : Nat → Nat) (nr : Nat) (nc : Nat) (pL : Nat → Nat) (pG : Nat → Nat) (pB : Nat → Bool) (pk : Nat → Int32) (bf : Nat → Int32) (hi : Nat → Int32) (sv : Nat → Int32) (ch : Nat) (hs : Bool) (inp : Nat → Nat) (ty : Nat) (er : Int32) (wy : Int32) (wd : Int32) (rf : Bool) (lt : Nat → Nat) (ln : Nat) (th : Int32) (tr : Nat → Nat) (mv : Nat → Nat) (fo : Int32) (sp : Nat) (wr : Bool) (td : Nat → Int32) (pa : Int32) (pc : Int32) (hd : 2 ≤ nr ∧ nr ≤ 3 ∧ 2 ≤ nc ∧ nc ≤ 3) (hKR : ∀ q, q < nr * nc → pG q = 46 ∨ (97 ≤ pG q ∧ pG q ≤ 108)) : MM l G yX5_goals cX5_goals 3 (some .int) ⟨2, 0, 0, 47⟩ [.ref mh, .int pa, .int pc] (MW G mh md nr nc pL pG pB pk bf hi sv ch hs inp ty er wy wd rf lt ln th tr mv fo sp wr td) (Qi_ G (fun (r : Int32) (_ : Unit) => r = (oGoal (nr, nc, pL, pG, pB, pk) pa pc).2.2.1) (fun (_ : Unit) => (MW G mh md ((oGoal (nr, nc, pL, pG, pB, pk) pa pc).2.1.1) ((oGoal (nr, nc, pL, pG, pB, pk) pa pc).2.1.2.1) ((oGoal (nr, nc, pL, pG, pB, pk) pa pc).2.1.2.2.1) ((oGoal (nr, nc, pL, pG, pB, pk) pa pc).2.1.2.2.2.1) ((oGoal (nr, nc, pL, pG, pB, pk) pa pc).2.1.2.2.2.2.1) ((oGoal (nr, nc, pL, pG, pB, pk) pa pc).2.1.2.2.2.2.2) bf hi sv ch hs inp ty er (oWy (oGoal (nr, nc, pL, pG, pB, pk) pa pc) wy) (oWd (oGoal (nr, nc, pL, pG, pB, pk) pa pc) wd) (oRf (oGoal (nr, nc, pL, pG, pB, pk) pa pc) rf) lt ln (nI (oGoal (nr, nc, pL, pG, pB, pk) pa pc).1) tr mv fo sp wr td))) := by
  refine MM.of (by decide) (Nat.le_of_ble_eq_true rfl) ?_
  intro p e s m args below meth cd A C hini hA hK hZ hP hD ls hl
  generalize hQ : MQ below ((Qi_ G (fun (r : Int32) (_ : Unit) => r = (oGoal (nr, nc, pL, pG, pB, pk) pa pc).2.2.1) (fun (_ : Unit) => (MW G mh md ((oGoal (nr, nc, pL, pG, pB, pk) pa pc).2.1.1) ((oGoal (nr, nc, pL, pG, pB, pk) pa pc).2.1.2.1) ((oGoal (nr, nc, pL, pG, pB, pk) pa pc).2.1.2.2.1) ((oGoal (nr, nc, pL, pG, pB, pk) pa pc).2.1.2.2.2.1) ((oGoal (nr, nc, pL, pG, pB, pk) pa pc).2.1.2.2.2.2.1) ((oGoal (nr, nc, pL, pG, pB, pk) pa pc).2.1.2.2.2.2.2) bf hi sv ch hs inp ty er (oWy (oGoal (nr, nc, pL, pG, pB, pk) pa pc) wy) (oWd (oGoal (nr, nc, pL, pG, pB, pk) pa pc) wd) (oRf (oGoal (nr, nc, pL, pG, pB, pk) pa pc) rf) lt ln (nI (oGoal (nr, nc, pL, pG, pB, pk) pa pc).1) tr mv fo sp wr td))) A) args s (⟨2, 0, 0, 47⟩ : Room).cells (⟨2, 0, 0, 47⟩ : Room).slots A = Q
  obtain ⟨hx, hb, hr, hts, hown, hlk, hml⟩ := C
  have hown : s.vm.findClass RX5 = some m.cls := hown
  have hS : va_S A s.heap s.heap [] := va_S.rf
  have hl : lv_has ls 3 [(0, .ref mh), (1, .int pa), (2, .int pc)] := hl
  have hmu := dm_mul hd
  refine lv_aload_n hx hb dX5_goals_0 rfl (lv_at hl 0 rfl) ?_
  refine lv_iload_n hx hb dX5_goals_1 rfl (lv_at hl 1 rfl) ?_
  refine callVi (As := [.int pa]) (rest := []) (wc := (MW G mh md nr nc pL pG pB pk bf hi sv ch hs inp ty er wy wd rf lt ln th tr mv fo sp wr td)) (wr := ([] : va_W)) ⟨hx, hb, hml, hown, hts⟩ (m_X5_isPlace l G mh md nr nc pL pG pB pk bf hi sv ch hs inp ty er wy wd rf lt ln th tr mv fo sp wr td pa (by first | assumption | omega)) (cwV 1 hts (lw_V q1837 q1839 qs42 q105 q1840) rfl rfl rfl (by decide +kernel) ⟨Nat.le_of_ble_eq_true rfl, Nat.le_of_ble_eq_true rfl⟩) hK hZ hA hP hD hS [0, 1, 2, 3, 4, 5, 6, 7, 8, 9] [] rfl rfl (by decide) (by decide) (by decide) 0 4 rfl rfl rfl hl.1 (Nat.le_of_ble_eq_true rfl) ⟨Nat.le_of_ble_eq_true rfl, Nat.le_of_ble_eq_true rfl⟩ rfl dX5_goals_2 (fun r9 u9 H locs hw9 hP hD hS => ?_)
  subst hw9
  have hP : va_P G.1 CL (MW G mh md nr nc pL pG pB pk bf hi sv ch hs inp ty er wy wd rf lt ln th tr mv fo sp wr td) _ := hP
  have hD : va_D A (MW G mh md nr nc pL pG pB pk bf hi sv ch hs inp ty er wy wd rf lt ln th tr mv fo sp wr td) := hD
  refine b_if_ne (tgt := 14) hx hb dX5_goals_5 (by decide) (fun c5 => ?_) (fun c5 => ?_)
  · skip
    refine lv_iload_n hx hb dX5_goals_14 rfl (lv_at hl 2 rfl) ?_
    refine callSi (As := [.int pc]) (rest := []) (wc := ([] : va_W)) (wr := (MW G mh md nr nc pL pG pB pk bf hi sv ch hs inp ty er wy wd rf lt ln th tr mv fo sp wr td)) ⟨hx, hb, hml, hown, hts⟩ (m_X5_isLetter l G pc ) (va_cwS 1 hts (lw_S q1841 q1842 q105 q1843) rfl rfl rfl (by decide +kernel) ⟨Nat.le_of_ble_eq_true rfl, Nat.le_of_ble_eq_true rfl⟩) hK hZ hA hP hD hS [] [0, 1, 2, 3, 4, 5, 6, 7, 8, 9] rfl rfl (by decide) (by decide) (by decide) rfl hl.1 (Nat.le_of_ble_eq_true rfl) ⟨Nat.le_of_ble_eq_true rfl, Nat.le_of_ble_eq_true rfl⟩ rfl dX5_goals_15 (fun r9 u9 H locs hw9 hP hD hS => ?_)
    subst hw9
    have hP : va_P G.1 CL (MW G mh md nr nc pL pG pB pk bf hi sv ch hs inp ty er wy wd rf lt ln th tr mv fo sp wr td) _ := hP
    have hD : va_D A (MW G mh md nr nc pL pG pB pk bf hi sv ch hs inp ty er wy wd rf lt ln th tr mv fo sp wr td) := hD
    refine b_if_ne (tgt := 27) hx hb dX5_goals_18 (by decide) (fun c18 => ?_) (fun c18 => ?_)
    · skip
      obtain ⟨kw, hkw, hcw⟩ : ∃ kw, (kw = 46 ∨ (97 ≤ kw ∧ kw ≤ 108)) ∧ cl_ pc = kw := ⟨_, by first | (obtain ⟨kc, h1, h2, e⟩ := inR_nI c18 (by decide) (by decide); subst e; rw [cl_n (by omega)]; exact Or.inr ⟨h1, h2⟩) | (subst c24; rw [cl_n (by decide)]; exact Or.inl rfl), rfl⟩
      have hgw : pc = nI kw := by first | (obtain ⟨kc, h1, h2, e⟩ := inR_nI c18 (by decide) (by decide); rw [← hcw, e, cl_n (by omega)]) | (rw [← hcw, c24, cl_n (by decide)])
      obtain ⟨ka, hka, rfl⟩ := isIx_t c5 (by omega)
      refine lv_aload_n hx hb dX5_goals_27 rfl (lv_at hl 0 rfl) ?_
      refine lv_bipush (v := nI 23) hx hb dX5_goals_28 (by decide) ?_
      refine lv_iload_n hx hb dX5_goals_30 rfl (lv_at hl 1 rfl) ?_
      refine lv_iload_n hx hb dX5_goals_31 rfl (lv_at hl 2 rfl) ?_
      refine lv_bipush (v := nI 46) hx hb dX5_goals_32 (by decide) ?_
      refine lv_icmp_ne (tgt := 41) hx hb dX5_goals_34 (by decide) (fun c34 => ?_) (fun c34 => ?_)
      · skip
        refine lv_iload_n hx hb dX5_goals_41 rfl (lv_at hl 2 rfl) ?_
        refine lv_bipush (v := nI 97) hx hb dX5_goals_42 (by decide) ?_
        refine lv_isub hx hb dX5_goals_44 ?_
        refine callVi (As := [.int (nI 23), .int (nI ka), .int (pc - (nI 97))]) (rest := []) (wc := (MW G mh md nr nc pL pG pB pk bf hi sv ch hs inp ty er wy wd rf lt ln th tr mv fo sp wr td)) (wr := ([] : va_W)) ⟨hx, hb, hml, hown, hts⟩ (m_X5_tells__G l G mh md nr nc pL pG pB pk bf hi sv ch hs inp ty er wy wd rf lt ln th tr mv fo sp wr td ka (pc - (nI 97)) kw (by first | assumption | omega) (by first | assumption | omega) (by first | (rw [gk, if_pos (by rw [c34] at hgw; exact ((nI_eq (by decide) (by omega)).mp hgw).symm)]; done) | (have h46 : ¬ kw = 46 := fun z => c34 (by rw [hgw, z]); rw [gk, if_neg h46, hgw, pk_sub (by omega)])) hkw (by first | assumption | omega)) (cwV 3 hts (lw_V q1844 q1846 qs43 q105 q1847) rfl rfl rfl (by decide +kernel) ⟨Nat.le_of_ble_eq_true rfl, Nat.le_of_ble_eq_true rfl⟩) hK hZ hA hP hD hS [0, 1, 2, 3, 4, 5, 6, 7, 8, 9] [] rfl rfl (by decide) (by decide) (by decide) 0 4 rfl rfl rfl hl.1 (Nat.le_of_ble_eq_true rfl) ⟨Nat.le_of_ble_eq_true rfl, Nat.le_of_ble_eq_true rfl⟩ rfl dX5_goals_45 (fun r9 u9 H locs hw9 hP hD hS => ?_)
        subst hw9
        have hP : va_P G.1 CL (MW G mh md ((oTellG (nr, nc, pL, pG, pB, pk) ka kw).2.1.1) ((oTellG (nr, nc, pL, pG, pB, pk) ka kw).2.1.2.1) ((oTellG (nr, nc, pL, pG, pB, pk) ka kw).2.1.2.2.1) ((oTellG (nr, nc, pL, pG, pB, pk) ka kw).2.1.2.2.2.1) ((oTellG (nr, nc, pL, pG, pB, pk) ka kw).2.1.2.2.2.2.1) ((oTellG (nr, nc, pL, pG, pB, pk) ka kw).2.1.2.2.2.2.2) bf hi sv ch hs inp ty er (oWy (oTellG (nr, nc, pL, pG, pB, pk) ka kw) wy) (oWd (oTellG (nr, nc, pL, pG, pB, pk) ka kw) wd) (oRf (oTellG (nr, nc, pL, pG, pB, pk) ka kw) rf) lt ln (nI (oTellG (nr, nc, pL, pG, pB, pk) ka kw).1) tr mv fo sp wr td) _ := hP
        have hD : va_D A (MW G mh md ((oTellG (nr, nc, pL, pG, pB, pk) ka kw).2.1.1) ((oTellG (nr, nc, pL, pG, pB, pk) ka kw).2.1.2.1) ((oTellG (nr, nc, pL, pG, pB, pk) ka kw).2.1.2.2.1) ((oTellG (nr, nc, pL, pG, pB, pk) ka kw).2.1.2.2.2.1) ((oTellG (nr, nc, pL, pG, pB, pk) ka kw).2.1.2.2.2.2.1) ((oTellG (nr, nc, pL, pG, pB, pk) ka kw).2.1.2.2.2.2.2) bf hi sv ch hs inp ty er (oWy (oTellG (nr, nc, pL, pG, pB, pk) ka kw) wy) (oWd (oTellG (nr, nc, pL, pG, pB, pk) ka kw) wd) (oRf (oTellG (nr, nc, pL, pG, pB, pk) ka kw) rf) lt ln (nI (oTellG (nr, nc, pL, pG, pB, pk) ka kw).1) tr mv fo sp wr td) := hD
        refine lv_goto (tgt := 56) hx hb dX5_goals_48 (by decide) ?_
        subst hQ
        rw [show oGoal (nr, nc, pL, pG, pB, pk) (nI ka) pc = oTellG (nr, nc, pL, pG, pB, pk) ka kw from (by unfold oGoal oTellG; rw [if_pos c5, if_pos (by first | (rw [c18]; rfl) | (rw [decide_eq_true c24, Bool.or_true])), cl_n (by omega), hcw])]
        exact ret_i hx hb hr hlk () rfl hP hD hS rfl dX5_goals_56
      · skip
        refine lv_iconst (v := (-1)) hx hb dX5_goals_37 (by decide) ?_
        refine lv_goto (tgt := 45) hx hb dX5_goals_38 (by decide) ?_
        refine callVi (As := [.int (nI 23), .int (nI ka), .int (-1)]) (rest := []) (wc := (MW G mh md nr nc pL pG pB pk bf hi sv ch hs inp ty er wy wd rf lt ln th tr mv fo sp wr td)) (wr := ([] : va_W)) ⟨hx, hb, hml, hown, hts⟩ (m_X5_tells__G l G mh md nr nc pL pG pB pk bf hi sv ch hs inp ty er wy wd rf lt ln th tr mv fo sp wr td ka (-1) kw (by first | assumption | omega) (by first | assumption | omega) (by first | (rw [gk, if_pos (by rw [c34] at hgw; exact ((nI_eq (by decide) (by omega)).mp hgw).symm)]; done) | (have h46 : ¬ kw = 46 := fun z => c34 (by rw [hgw, z]); rw [gk, if_neg h46, hgw, pk_sub (by omega)])) hkw (by first | assumption | omega)) (cwV 3 hts (lw_V q1844 q1846 qs43 q105 q1847) rfl rfl rfl (by decide +kernel) ⟨Nat.le_of_ble_eq_true rfl, Nat.le_of_ble_eq_true rfl⟩) hK hZ hA hP hD hS [0, 1, 2, 3, 4, 5, 6, 7, 8, 9] [] rfl rfl (by decide) (by decide) (by decide) 0 4 rfl rfl rfl hl.1 (Nat.le_of_ble_eq_true rfl) ⟨Nat.le_of_ble_eq_true rfl, Nat.le_of_ble_eq_true rfl⟩ rfl dX5_goals_45 (fun r9 u9 H locs hw9 hP hD hS => ?_)
        subst hw9
        have hP : va_P G.1 CL (MW G mh md ((oTellG (nr, nc, pL, pG, pB, pk) ka kw).2.1.1) ((oTellG (nr, nc, pL, pG, pB, pk) ka kw).2.1.2.1) ((oTellG (nr, nc, pL, pG, pB, pk) ka kw).2.1.2.2.1) ((oTellG (nr, nc, pL, pG, pB, pk) ka kw).2.1.2.2.2.1) ((oTellG (nr, nc, pL, pG, pB, pk) ka kw).2.1.2.2.2.2.1) ((oTellG (nr, nc, pL, pG, pB, pk) ka kw).2.1.2.2.2.2.2) bf hi sv ch hs inp ty er (oWy (oTellG (nr, nc, pL, pG, pB, pk) ka kw) wy) (oWd (oTellG (nr, nc, pL, pG, pB, pk) ka kw) wd) (oRf (oTellG (nr, nc, pL, pG, pB, pk) ka kw) rf) lt ln (nI (oTellG (nr, nc, pL, pG, pB, pk) ka kw).1) tr mv fo sp wr td) _ := hP
        have hD : va_D A (MW G mh md ((oTellG (nr, nc, pL, pG, pB, pk) ka kw).2.1.1) ((oTellG (nr, nc, pL, pG, pB, pk) ka kw).2.1.2.1) ((oTellG (nr, nc, pL, pG, pB, pk) ka kw).2.1.2.2.1) ((oTellG (nr, nc, pL, pG, pB, pk) ka kw).2.1.2.2.2.1) ((oTellG (nr, nc, pL, pG, pB, pk) ka kw).2.1.2.2.2.2.1) ((oTellG (nr, nc, pL, pG, pB, pk) ka kw).2.1.2.2.2.2.2) bf hi sv ch hs inp ty er (oWy (oTellG (nr, nc, pL, pG, pB, pk) ka kw) wy) (oWd (oTellG (nr, nc, pL, pG, pB, pk) ka kw) wd) (oRf (oTellG (nr, nc, pL, pG, pB, pk) ka kw) rf) lt ln (nI (oTellG (nr, nc, pL, pG, pB, pk) ka kw).1) tr mv fo sp wr td) := hD
        refine lv_goto (tgt := 56) hx hb dX5_goals_48 (by decide) ?_
        subst hQ
        rw [show oGoal (nr, nc, pL, pG, pB, pk) (nI ka) pc = oTellG (nr, nc, pL, pG, pB, pk) ka kw from (by unfold oGoal oTellG; rw [if_pos c5, if_pos (by first | (rw [c18]; rfl) | (rw [decide_eq_true c24, Bool.or_true])), cl_n (by omega), hcw])]
        exact ret_i hx hb hr hlk () rfl hP hD hS rfl dX5_goals_56
    · skip
      refine lv_iload_n hx hb dX5_goals_21 rfl (lv_at hl 2 rfl) ?_
      refine lv_bipush (v := nI 46) hx hb dX5_goals_22 (by decide) ?_
      refine lv_icmp_ne (tgt := 51) hx hb dX5_goals_24 (by decide) (fun c24 => ?_) (fun c24 => ?_)
      · skip
        refine lv_aload_n hx hb dX5_goals_51 rfl (lv_at hl 0 rfl) ?_
        refine lv_iconst (v := nI 2) hx hb dX5_goals_52 (by decide) ?_
        refine callVi (As := [.int (nI 2)]) (rest := []) (wc := (MW G mh md nr nc pL pG pB pk bf hi sv ch hs inp ty er wy wd rf lt ln th tr mv fo sp wr td)) (wr := ([] : va_W)) ⟨hx, hb, hml, hown, hts⟩ (m_X5_fails l G mh md nr nc pL pG pB pk bf hi sv ch hs inp ty er wy wd rf lt ln th tr mv fo sp wr td (nI 2) ) (cwV 1 hts (lw_V q1813 q1815 qs37 q105 q1816) rfl rfl rfl (by decide +kernel) ⟨Nat.le_of_ble_eq_true rfl, Nat.le_of_ble_eq_true rfl⟩) hK hZ hA hP hD hS [0, 1, 2, 3, 4, 5, 6, 7, 8, 9] [] rfl rfl (by decide) (by decide) (by decide) 0 4 rfl rfl rfl hl.1 (Nat.le_of_ble_eq_true rfl) ⟨Nat.le_of_ble_eq_true rfl, Nat.le_of_ble_eq_true rfl⟩ rfl dX5_goals_53 (fun r9 u9 H locs hw9 hP hD hS => ?_)
        subst hw9
        have hP : va_P G.1 CL (MW G mh md nr nc pL pG pB pk bf hi sv ch hs inp ty er wy wd false lt ln (nI 2) tr mv fo sp wr td) _ := hP
        have hD : va_D A (MW G mh md nr nc pL pG pB pk bf hi sv ch hs inp ty er wy wd false lt ln (nI 2) tr mv fo sp wr td) := hD
        subst hQ
        rw [show oGoal (nr, nc, pL, pG, pB, pk) pa pc = (2, (nr, nc, pL, pG, pB, pk), nI 0, none) from (by unfold oGoal; rw [if_pos c5, if_neg (by rw [c18, decide_eq_false c24]; decide)])]
        exact ret_i hx hb hr hlk () rfl hP hD hS rfl dX5_goals_56
      · skip
        obtain ⟨kw, hkw, hcw⟩ : ∃ kw, (kw = 46 ∨ (97 ≤ kw ∧ kw ≤ 108)) ∧ cl_ pc = kw := ⟨_, by first | (obtain ⟨kc, h1, h2, e⟩ := inR_nI c18 (by decide) (by decide); subst e; rw [cl_n (by omega)]; exact Or.inr ⟨h1, h2⟩) | (subst c24; rw [cl_n (by decide)]; exact Or.inl rfl), rfl⟩
        have hgw : pc = nI kw := by first | (obtain ⟨kc, h1, h2, e⟩ := inR_nI c18 (by decide) (by decide); rw [← hcw, e, cl_n (by omega)]) | (rw [← hcw, c24, cl_n (by decide)])
        obtain ⟨ka, hka, rfl⟩ := isIx_t c5 (by omega)
        refine lv_aload_n hx hb dX5_goals_27 rfl (lv_at hl 0 rfl) ?_
        refine lv_bipush (v := nI 23) hx hb dX5_goals_28 (by decide) ?_
        refine lv_iload_n hx hb dX5_goals_30 rfl (lv_at hl 1 rfl) ?_
        refine lv_iload_n hx hb dX5_goals_31 rfl (lv_at hl 2 rfl) ?_
        refine lv_bipush (v := nI 46) hx hb dX5_goals_32 (by decide) ?_
        refine lv_icmp_ne (tgt := 41) hx hb dX5_goals_34 (by decide) (fun c34 => ?_) (fun c34 => ?_)
        · skip
          refine lv_iload_n hx hb dX5_goals_41 rfl (lv_at hl 2 rfl) ?_
          refine lv_bipush (v := nI 97) hx hb dX5_goals_42 (by decide) ?_
          refine lv_isub hx hb dX5_goals_44 ?_
          refine callVi (As := [.int (nI 23), .int (nI ka), .int (pc - (nI 97))]) (rest := []) (wc := (MW G mh md nr nc pL pG pB pk bf hi sv ch hs inp ty er wy wd rf lt ln th tr mv fo sp wr td)) (wr := ([] : va_W)) ⟨hx, hb, hml, hown, hts⟩ (m_X5_tells__G l G mh md nr nc pL pG pB pk bf hi sv ch hs inp ty er wy wd rf lt ln th tr mv fo sp wr td ka (pc - (nI 97)) kw (by first | assumption | omega) (by first | assumption | omega) (by first | (rw [gk, if_pos (by rw [c34] at hgw; exact ((nI_eq (by decide) (by omega)).mp hgw).symm)]; done) | (have h46 : ¬ kw = 46 := fun z => c34 (by rw [hgw, z]); rw [gk, if_neg h46, hgw, pk_sub (by omega)])) hkw (by first | assumption | omega)) (cwV 3 hts (lw_V q1844 q1846 qs43 q105 q1847) rfl rfl rfl (by decide +kernel) ⟨Nat.le_of_ble_eq_true rfl, Nat.le_of_ble_eq_true rfl⟩) hK hZ hA hP hD hS [0, 1, 2, 3, 4, 5, 6, 7, 8, 9] [] rfl rfl (by decide) (by decide) (by decide) 0 4 rfl rfl rfl hl.1 (Nat.le_of_ble_eq_true rfl) ⟨Nat.le_of_ble_eq_true rfl, Nat.le_of_ble_eq_true rfl⟩ rfl dX5_goals_45 (fun r9 u9 H locs hw9 hP hD hS => ?_)
          subst hw9
          have hP : va_P G.1 CL (MW G mh md ((oTellG (nr, nc, pL, pG, pB, pk) ka kw).2.1.1) ((oTellG (nr, nc, pL, pG, pB, pk) ka kw).2.1.2.1) ((oTellG (nr, nc, pL, pG, pB, pk) ka kw).2.1.2.2.1) ((oTellG (nr, nc, pL, pG, pB, pk) ka kw).2.1.2.2.2.1) ((oTellG (nr, nc, pL, pG, pB, pk) ka kw).2.1.2.2.2.2.1) ((oTellG (nr, nc, pL, pG, pB, pk) ka kw).2.1.2.2.2.2.2) bf hi sv ch hs inp ty er (oWy (oTellG (nr, nc, pL, pG, pB, pk) ka kw) wy) (oWd (oTellG (nr, nc, pL, pG, pB, pk) ka kw) wd) (oRf (oTellG (nr, nc, pL, pG, pB, pk) ka kw) rf) lt ln (nI (oTellG (nr, nc, pL, pG, pB, pk) ka kw).1) tr mv fo sp wr td) _ := hP
          have hD : va_D A (MW G mh md ((oTellG (nr, nc, pL, pG, pB, pk) ka kw).2.1.1) ((oTellG (nr, nc, pL, pG, pB, pk) ka kw).2.1.2.1) ((oTellG (nr, nc, pL, pG, pB, pk) ka kw).2.1.2.2.1) ((oTellG (nr, nc, pL, pG, pB, pk) ka kw).2.1.2.2.2.1) ((oTellG (nr, nc, pL, pG, pB, pk) ka kw).2.1.2.2.2.2.1) ((oTellG (nr, nc, pL, pG, pB, pk) ka kw).2.1.2.2.2.2.2) bf hi sv ch hs inp ty er (oWy (oTellG (nr, nc, pL, pG, pB, pk) ka kw) wy) (oWd (oTellG (nr, nc, pL, pG, pB, pk) ka kw) wd) (oRf (oTellG (nr, nc, pL, pG, pB, pk) ka kw) rf) lt ln (nI (oTellG (nr, nc, pL, pG, pB, pk) ka kw).1) tr mv fo sp wr td) := hD
          refine lv_goto (tgt := 56) hx hb dX5_goals_48 (by decide) ?_
          subst hQ
          rw [show oGoal (nr, nc, pL, pG, pB, pk) (nI ka) pc = oTellG (nr, nc, pL, pG, pB, pk) ka kw from (by unfold oGoal oTellG; rw [if_pos c5, if_pos (by first | (rw [c18]; rfl) | (rw [decide_eq_true c24, Bool.or_true])), cl_n (by omega), hcw])]
          exact ret_i hx hb hr hlk () rfl hP hD hS rfl dX5_goals_56
        · skip
          refine lv_iconst (v := (-1)) hx hb dX5_goals_37 (by decide) ?_
          refine lv_goto (tgt := 45) hx hb dX5_goals_38 (by decide) ?_
          refine callVi (As := [.int (nI 23), .int (nI ka), .int (-1)]) (rest := []) (wc := (MW G mh md nr nc pL pG pB pk bf hi sv ch hs inp ty er wy wd rf lt ln th tr mv fo sp wr td)) (wr := ([] : va_W)) ⟨hx, hb, hml, hown, hts⟩ (m_X5_tells__G l G mh md nr nc pL pG pB pk bf hi sv ch hs inp ty er wy wd rf lt ln th tr mv fo sp wr td ka (-1) kw (by first | assumption | omega) (by first | assumption | omega) (by first | (rw [gk, if_pos (by rw [c34] at hgw; exact ((nI_eq (by decide) (by omega)).mp hgw).symm)]; done) | (have h46 : ¬ kw = 46 := fun z => c34 (by rw [hgw, z]); rw [gk, if_neg h46, hgw, pk_sub (by omega)])) hkw (by first | assumption | omega)) (cwV 3 hts (lw_V q1844 q1846 qs43 q105 q1847) rfl rfl rfl (by decide +kernel) ⟨Nat.le_of_ble_eq_true rfl, Nat.le_of_ble_eq_true rfl⟩) hK hZ hA hP hD hS [0, 1, 2, 3, 4, 5, 6, 7, 8, 9] [] rfl rfl (by decide) (by decide) (by decide) 0 4 rfl rfl rfl hl.1 (Nat.le_of_ble_eq_true rfl) ⟨Nat.le_of_ble_eq_true rfl, Nat.le_of_ble_eq_true rfl⟩ rfl dX5_goals_45 (fun r9 u9 H locs hw9 hP hD hS => ?_)
          subst hw9
          have hP : va_P G.1 CL (MW G mh md ((oTellG (nr, nc, pL, pG, pB, pk) ka kw).2.1.1) ((oTellG (nr, nc, pL, pG, pB, pk) ka kw).2.1.2.1) ((oTellG (nr, nc, pL, pG, pB, pk) ka kw).2.1.2.2.1) ((oTellG (nr, nc, pL, pG, pB, pk) ka kw).2.1.2.2.2.1) ((oTellG (nr, nc, pL, pG, pB, pk) ka kw).2.1.2.2.2.2.1) ((oTellG (nr, nc, pL, pG, pB, pk) ka kw).2.1.2.2.2.2.2) bf hi sv ch hs inp ty er (oWy (oTellG (nr, nc, pL, pG, pB, pk) ka kw) wy) (oWd (oTellG (nr, nc, pL, pG, pB, pk) ka kw) wd) (oRf (oTellG (nr, nc, pL, pG, pB, pk) ka kw) rf) lt ln (nI (oTellG (nr, nc, pL, pG, pB, pk) ka kw).1) tr mv fo sp wr td) _ := hP
          have hD : va_D A (MW G mh md ((oTellG (nr, nc, pL, pG, pB, pk) ka kw).2.1.1) ((oTellG (nr, nc, pL, pG, pB, pk) ka kw).2.1.2.1) ((oTellG (nr, nc, pL, pG, pB, pk) ka kw).2.1.2.2.1) ((oTellG (nr, nc, pL, pG, pB, pk) ka kw).2.1.2.2.2.1) ((oTellG (nr, nc, pL, pG, pB, pk) ka kw).2.1.2.2.2.2.1) ((oTellG (nr, nc, pL, pG, pB, pk) ka kw).2.1.2.2.2.2.2) bf hi sv ch hs inp ty er (oWy (oTellG (nr, nc, pL, pG, pB, pk) ka kw) wy) (oWd (oTellG (nr, nc, pL, pG, pB, pk) ka kw) wd) (oRf (oTellG (nr, nc, pL, pG, pB, pk) ka kw) rf) lt ln (nI (oTellG (nr, nc, pL, pG, pB, pk) ka kw).1) tr mv fo sp wr td) := hD
          refine lv_goto (tgt := 56) hx hb dX5_goals_48 (by decide) ?_
          subst hQ
          rw [show oGoal (nr, nc, pL, pG, pB, pk) (nI ka) pc = oTellG (nr, nc, pL, pG, pB, pk) ka kw from (by unfold oGoal oTellG; rw [if_pos c5, if_pos (by first | (rw [c18]; rfl) | (rw [decide_eq_true c24, Bool.or_true])), cl_n (by omega), hcw])]
          exact ret_i hx hb hr hlk () rfl hP hD hS rfl dX5_goals_56
  · skip
    refine lv_aload_n hx hb dX5_goals_8 rfl (lv_at hl 0 rfl) ?_
    refine lv_iconst (v := nI 1) hx hb dX5_goals_9 (by decide) ?_
    refine callVi (As := [.int (nI 1)]) (rest := []) (wc := (MW G mh md nr nc pL pG pB pk bf hi sv ch hs inp ty er wy wd rf lt ln th tr mv fo sp wr td)) (wr := ([] : va_W)) ⟨hx, hb, hml, hown, hts⟩ (m_X5_fails l G mh md nr nc pL pG pB pk bf hi sv ch hs inp ty er wy wd rf lt ln th tr mv fo sp wr td (nI 1) ) (cwV 1 hts (lw_V q1813 q1815 qs37 q105 q1816) rfl rfl rfl (by decide +kernel) ⟨Nat.le_of_ble_eq_true rfl, Nat.le_of_ble_eq_true rfl⟩) hK hZ hA hP hD hS [0, 1, 2, 3, 4, 5, 6, 7, 8, 9] [] rfl rfl (by decide) (by decide) (by decide) 0 4 rfl rfl rfl hl.1 (Nat.le_of_ble_eq_true rfl) ⟨Nat.le_of_ble_eq_true rfl, Nat.le_of_ble_eq_true rfl⟩ rfl dX5_goals_10 (fun r9 u9 H locs hw9 hP hD hS => ?_)
    subst hw9
    have hP : va_P G.1 CL (MW G mh md nr nc pL pG pB pk bf hi sv ch hs inp ty er wy wd false lt ln (nI 1) tr mv fo sp wr td) _ := hP
    have hD : va_D A (MW G mh md nr nc pL pG pB pk bf hi sv ch hs inp ty er wy wd false lt ln (nI 1) tr mv fo sp wr td) := hD
    subst hQ
    rw [show oGoal (nr, nc, pL, pG, pB, pk) pa pc = (1, (nr, nc, pL, pG, pB, pk), nI 0, none) from (if_neg (by rw [c5]; decide))]
    exact ret_i hx hb hr hlk () rfl hP hD hS rfl dX5_goals_13
set_option maxHeartbeats 4000000 in
set_option maxRecDepth 100000 in
theorem m_X5_turnsOne (l : Launch) (G : GG) (mh : Nat) (md : Nat → Nat) (nr : Nat) (nc : Nat) (pL : Nat → Nat) (pG : Nat → Nat) (pB : Nat → Bool) (pk : Nat → Int32) (bf : Nat → Int32) (hi : Nat → Int32) (sv : Nat → Int32) (ch : Nat) (hs : Bool) (inp : Nat → Nat) (ty : Nat) (er : Int32) (wy : Int32) (wd : Int32) (rf : Bool) (lt : Nat → Nat) (ln : Nat) (th : Int32) (tr : Nat → Nat) (mv : Nat → Nat) (fo : Int32) (sp : Nat) (wr : Bool) (td : Nat → Int32) (pa : Int32) (hd : 2 ≤ nr ∧ nr ≤ 3 ∧ 2 ≤ nc ∧ nc ≤ 3) (hLR : ∀ q, q < nr * nc → 97 ≤ pL q ∧ pL q ≤ 108) (hKR : ∀ q, q < nr * nc → pG q = 46 ∨ (97 ≤ pG q ∧ pG q ≤ 108)) : MM l G yX5_turnsOne cX5_turnsOne 2 (some .int) ⟨4, 0, 0, 92⟩ [.ref mh, .int pa] (MW G mh md nr nc pL pG pB pk bf hi sv ch hs inp ty er wy wd rf lt ln th tr mv fo sp wr td) (Qi_ G (fun (r : Int32) (u : (Nat → Nat) × (Nat → Nat)) => r = (oTurn (nr, nc, pL, pG, pB, pk) pa).2.2.1) (fun (u : (Nat → Nat) × (Nat → Nat)) => (MW G mh md ((oTurn (nr, nc, pL, pG, pB, pk) pa).2.1.1) ((oTurn (nr, nc, pL, pG, pB, pk) pa).2.1.2.1) ((oTurn (nr, nc, pL, pG, pB, pk) pa).2.1.2.2.1) ((oTurn (nr, nc, pL, pG, pB, pk) pa).2.1.2.2.2.1) ((oTurn (nr, nc, pL, pG, pB, pk) pa).2.1.2.2.2.2.1) ((oTurn (nr, nc, pL, pG, pB, pk) pa).2.1.2.2.2.2.2) bf hi sv ch hs inp ty er (oWy (oTurn (nr, nc, pL, pG, pB, pk) pa) wy) (oWd (oTurn (nr, nc, pL, pG, pB, pk) pa) wd) (oRf (oTurn (nr, nc, pL, pG, pB, pk) pa) rf) lt ln (nI (oTurn (nr, nc, pL, pG, pB, pk) pa).1) u.1 u.2 fo sp wr td))) := by
  refine MM.of (by decide) (Nat.le_of_ble_eq_true rfl) ?_
  intro p e s m args below meth cd A C hini hA hK hZ hP hD ls hl
  generalize hQ : MQ below ((Qi_ G (fun (r : Int32) (u : (Nat → Nat) × (Nat → Nat)) => r = (oTurn (nr, nc, pL, pG, pB, pk) pa).2.2.1) (fun (u : (Nat → Nat) × (Nat → Nat)) => (MW G mh md ((oTurn (nr, nc, pL, pG, pB, pk) pa).2.1.1) ((oTurn (nr, nc, pL, pG, pB, pk) pa).2.1.2.1) ((oTurn (nr, nc, pL, pG, pB, pk) pa).2.1.2.2.1) ((oTurn (nr, nc, pL, pG, pB, pk) pa).2.1.2.2.2.1) ((oTurn (nr, nc, pL, pG, pB, pk) pa).2.1.2.2.2.2.1) ((oTurn (nr, nc, pL, pG, pB, pk) pa).2.1.2.2.2.2.2) bf hi sv ch hs inp ty er (oWy (oTurn (nr, nc, pL, pG, pB, pk) pa) wy) (oWd (oTurn (nr, nc, pL, pG, pB, pk) pa) wd) (oRf (oTurn (nr, nc, pL, pG, pB, pk) pa) rf) lt ln (nI (oTurn (nr, nc, pL, pG, pB, pk) pa).1) u.1 u.2 fo sp wr td))) A) args s (⟨4, 0, 0, 92⟩ : Room).cells (⟨4, 0, 0, 92⟩ : Room).slots A = Q
  obtain ⟨hx, hb, hr, hts, hown, hlk, hml⟩ := C
  have hown : s.vm.findClass RX5 = some m.cls := hown
  have hS : va_S A s.heap s.heap [] := va_S.rf
  have hl : lv_has ls 2 [(0, .ref mh), (1, .int pa)] := hl
  have hmu := dm_mul hd
  refine lv_aload_n hx hb dX5_turnsOne_0 rfl (lv_at hl 0 rfl) ?_
  refine lv_iload_n hx hb dX5_turnsOne_1 rfl (lv_at hl 1 rfl) ?_
  refine callVi (As := [.int pa]) (rest := []) (wc := (MW G mh md nr nc pL pG pB pk bf hi sv ch hs inp ty er wy wd rf lt ln th tr mv fo sp wr td)) (wr := ([] : va_W)) ⟨hx, hb, hml, hown, hts⟩ (m_X5_isTurn l G mh md nr nc pL pG pB pk bf hi sv ch hs inp ty er wy wd rf lt ln th tr mv fo sp wr td pa (by first | assumption | omega)) (cwV 1 hts (lw_V q1871 q1873 qs47 q105 q1874) rfl rfl rfl (by decide +kernel) ⟨Nat.le_of_ble_eq_true rfl, Nat.le_of_ble_eq_true rfl⟩) hK hZ hA hP hD hS [0, 1, 2, 3, 4, 5, 6, 7, 8, 9] [] rfl rfl (by decide) (by decide) (by decide) 0 4 rfl rfl rfl hl.1 (Nat.le_of_ble_eq_true rfl) ⟨Nat.le_of_ble_eq_true rfl, Nat.le_of_ble_eq_true rfl⟩ rfl dX5_turnsOne_2 (fun r9 u9 H locs hw9 hP hD hS => ?_)
  subst hw9
  have hP : va_P G.1 CL (MW G mh md nr nc pL pG pB pk bf hi sv ch hs inp ty er wy wd rf lt ln th tr mv fo sp wr td) _ := hP
  have hD : va_D A (MW G mh md nr nc pL pG pB pk bf hi sv ch hs inp ty er wy wd rf lt ln th tr mv fo sp wr td) := hD
  refine b_if_ne (tgt := 14) hx hb dX5_turnsOne_5 (by decide) (fun c5 => ?_) (fun c5 => ?_)
  · skip
    obtain ⟨ka, hka, rfl⟩ := isIx_t c5 (by omega)
    refine lv_aload_n hx hb dX5_turnsOne_14 rfl (lv_at hl 0 rfl) ?_
    refine lv_iload_n hx hb dX5_turnsOne_15 rfl (lv_at hl 1 rfl) ?_
    refine callVi (As := [.int (nI ka)]) (rest := []) (wc := (MW G mh md nr nc pL pG pB pk bf hi sv ch hs inp ty er wy wd rf lt ln th tr mv fo sp wr td)) (wr := ([] : va_W)) ⟨hx, hb, hml, hown, hts⟩ (m_X5_isOpen l G mh md nr nc pL pG pB pk bf hi sv ch hs inp ty er wy wd rf lt ln th tr mv fo sp wr td ka (by first | assumption | omega)) (cwV 1 hts (lw_V q1879 q1881 qs49 q105 q1882) rfl rfl rfl (by decide +kernel) ⟨Nat.le_of_ble_eq_true rfl, Nat.le_of_ble_eq_true rfl⟩) hK hZ hA hP hD hS [0, 1, 2, 3, 4, 5, 6, 7, 8, 9] [] rfl rfl (by decide) (by decide) (by decide) 0 4 rfl rfl rfl hl.1 (Nat.le_of_ble_eq_true rfl) ⟨Nat.le_of_ble_eq_true rfl, Nat.le_of_ble_eq_true rfl⟩ rfl dX5_turnsOne_16 (fun r9 u9 H locs hw9 hP hD hS => ?_)
    subst hw9
    have hP : va_P G.1 CL (MW G mh md nr nc pL pG pB pk bf hi sv ch hs inp ty er wy wd rf lt ln th tr mv fo sp wr td) _ := hP
    have hD : va_D A (MW G mh md nr nc pL pG pB pk bf hi sv ch hs inp ty er wy wd rf lt ln th tr mv fo sp wr td) := hD
    refine b_if_eq (tgt := 34) hx hb dX5_turnsOne_19 (by decide) (fun c19 => ?_) (fun c19 => ?_)
    · skip
      refine lv_aload_n hx hb dX5_turnsOne_34 rfl (lv_at hl 0 rfl) ?_
      refine lv_iconst (v := nI 1) hx hb dX5_turnsOne_35 (by decide) ?_
      refine lv_iload_n hx hb dX5_turnsOne_36 rfl (lv_at hl 1 rfl) ?_
      refine lv_iconst (v := nI 2) hx hb dX5_turnsOne_37 (by decide) ?_
      refine n_idiv hx hb (by omega) (by omega) (by omega) dX5_turnsOne_38 ?_
      refine lv_iconst (v := nI 2) hx hb dX5_turnsOne_39 (by decide) ?_
      refine callVi (As := [.int (nI 1), .int (nI (ka / 2)), .int (nI 2)]) (rest := []) (wc := (MW G mh md nr nc pL pG pB pk bf hi sv ch hs inp ty er wy wd rf lt ln th tr mv fo sp wr td)) (wr := ([] : va_W)) ⟨hx, hb, hml, hown, hts⟩ (m_X5_refused l G mh md nr nc pL pG pB pk bf hi sv ch hs inp ty er wy wd rf lt ln th tr mv fo sp wr td (nI 1) (nI (ka / 2)) (nI 2) ) (cwV 3 hts (lw_V q1848 q1850 qs44 q105 q1851) rfl rfl rfl (by decide +kernel) ⟨Nat.le_of_ble_eq_true rfl, Nat.le_of_ble_eq_true rfl⟩) hK hZ hA hP hD hS [0, 1, 2, 3, 4, 5, 6, 7, 8, 9] [] rfl rfl (by decide) (by decide) (by decide) 0 4 rfl rfl rfl hl.1 (Nat.le_of_ble_eq_true rfl) ⟨Nat.le_of_ble_eq_true rfl, Nat.le_of_ble_eq_true rfl⟩ rfl dX5_turnsOne_40 (fun r9 u9 H locs hw9 hP hD hS => ?_)
      subst hw9
      have hP : va_P G.1 CL (MW G mh md nr nc pL pG pB pk bf hi sv ch hs inp ty er (nI 1) (nI (ka / 2)) true lt ln (nI 2) tr mv fo sp wr td) _ := hP
      have hD : va_D A (MW G mh md nr nc pL pG pB pk bf hi sv ch hs inp ty er (nI 1) (nI (ka / 2)) true lt ln (nI 2) tr mv fo sp wr td) := hD
      subst hQ
      rw [show oTurn (nr, nc, pL, pG, pB, pk) (nI ka) = (2, (nr, nc, pL, pG, pB, pk), nI 0, some ((nI 1), (nI (ka / 2)))) from (by unfold oTurn; rw [if_pos c5, cl_n (by omega), if_pos (by simpa using c19)])]
      exact ret_i hx hb hr hlk (⟨tr, mv⟩) rfl hP hD hS rfl dX5_turnsOne_43
    · skip
      refine lv_aload_n hx hb dX5_turnsOne_22 rfl (lv_at hl 0 rfl) ?_
      refine lv_aload_n hx hb dX5_turnsOne_23 rfl (lv_at hl 0 rfl) ?_
      refine lv_iload_n hx hb dX5_turnsOne_24 rfl (lv_at hl 1 rfl) ?_
      refine callVi (As := [.int (nI ka)]) (rest := [.ref mh]) (wc := (MW G mh md nr nc pL pG pB pk bf hi sv ch hs inp ty er wy wd rf lt ln th tr mv fo sp wr td)) (wr := ([] : va_W)) ⟨hx, hb, hml, hown, hts⟩ (m_X5_makesByHand l G mh md nr nc pL pG pB pk bf hi sv ch hs inp ty er wy wd rf lt ln th tr mv fo sp wr td ka (by first | assumption | omega) (by first | assumption | omega) (by first | assumption | omega) (by first | assumption | omega)) (cwV 1 hts (lw_V q1883 q1885 qs50 q105 q1886) rfl rfl rfl (by decide +kernel) ⟨Nat.le_of_ble_eq_true rfl, Nat.le_of_ble_eq_true rfl⟩) hK hZ hA hP hD hS [0, 1, 2, 3, 4, 5, 6, 7, 8, 9] [] rfl rfl (by decide) (by decide) (by decide) 0 4 rfl rfl rfl hl.1 (Nat.le_of_ble_eq_true rfl) ⟨Nat.le_of_ble_eq_true rfl, Nat.le_of_ble_eq_true rfl⟩ rfl dX5_turnsOne_25 (fun r9 u9 H locs hw9 hP hD hS => ?_)
      obtain ⟨tr1_4, mv1_4⟩ := u9
      obtain ⟨hr9, hw25⟩ := hw9
      subst hr9
      have hw25 : ∀ q, q < nr * nc → tr1_4 q = tn nr nc ka pL q - 97 := hw25
      have hP : va_P G.1 CL (MW G mh md nr nc (tn nr nc ka pL) pG pB (turnK nr nc pL pG pk ka) bf hi sv ch hs inp ty er wy wd rf lt ln th tr1_4 mv1_4 fo sp wr td) _ := hP
      have hD : va_D A (MW G mh md nr nc (tn nr nc ka pL) pG pB (turnK nr nc pL pG pk ka) bf hi sv ch hs inp ty er wy wd rf lt ln th tr1_4 mv1_4 fo sp wr td) := hD
      refine callVi (As := [.int (nI (hm nr nc (tn nr nc ka pL) pG))]) (rest := []) (wc := (MW G mh md nr nc (tn nr nc ka pL) pG pB (turnK nr nc pL pG pk ka) bf hi sv ch hs inp ty er wy wd rf lt ln th tr1_4 mv1_4 fo sp wr td)) (wr := ([] : va_W)) ⟨hx, hb, hml, hown, hts⟩ (m_X5_done l G mh md nr nc (tn nr nc ka pL) pG pB (turnK nr nc pL pG pk ka) bf hi sv ch hs inp ty er wy wd rf lt ln th tr1_4 mv1_4 fo sp wr td (nI (hm nr nc (tn nr nc ka pL) pG)) ) (cwV 1 hts (lw_V q1821 q1823 qs39 q105 q1824) rfl rfl rfl (by decide +kernel) ⟨Nat.le_of_ble_eq_true rfl, Nat.le_of_ble_eq_true rfl⟩) hK hZ hA hP hD hS [0, 1, 2, 3, 4, 5, 6, 7, 8, 9] [] rfl rfl (by decide) (by decide) (by decide) 0 4 rfl rfl rfl hl.1 (Nat.le_of_ble_eq_true rfl) ⟨Nat.le_of_ble_eq_true rfl, Nat.le_of_ble_eq_true rfl⟩ rfl dX5_turnsOne_28 (fun r9 u9 H locs hw9 hP hD hS => ?_)
      subst hw9
      have hP : va_P G.1 CL (MW G mh md nr nc (tn nr nc ka pL) pG pB (turnK nr nc pL pG pk ka) bf hi sv ch hs inp ty er wy wd rf lt ln (nI 0) tr1_4 mv1_4 fo sp wr td) _ := hP
      have hD : va_D A (MW G mh md nr nc (tn nr nc ka pL) pG pB (turnK nr nc pL pG pk ka) bf hi sv ch hs inp ty er wy wd rf lt ln (nI 0) tr1_4 mv1_4 fo sp wr td) := hD
      refine lv_goto (tgt := 43) hx hb dX5_turnsOne_31 (by decide) ?_
      subst hQ
      rw [show oTurn (nr, nc, pL, pG, pB, pk) (nI ka) = (0, (nr, nc, (tn nr nc ka pL), pG, pB, (turnK nr nc pL pG pk ka)), (nI (hm nr nc (tn nr nc ka pL) pG)), none) from (by unfold oTurn; rw [if_pos c5, cl_n (by omega), if_neg (by intro z; have z2 : pB (ka / 2) = true := z; rw [z2] at c19; exact absurd c19 (by decide))])]
      exact ret_i hx hb hr hlk (⟨tr1_4, mv1_4⟩) rfl hP hD hS rfl dX5_turnsOne_43
  · skip
    refine lv_aload_n hx hb dX5_turnsOne_8 rfl (lv_at hl 0 rfl) ?_
    refine lv_iconst (v := nI 1) hx hb dX5_turnsOne_9 (by decide) ?_
    refine callVi (As := [.int (nI 1)]) (rest := []) (wc := (MW G mh md nr nc pL pG pB pk bf hi sv ch hs inp ty er wy wd rf lt ln th tr mv fo sp wr td)) (wr := ([] : va_W)) ⟨hx, hb, hml, hown, hts⟩ (m_X5_fails l G mh md nr nc pL pG pB pk bf hi sv ch hs inp ty er wy wd rf lt ln th tr mv fo sp wr td (nI 1) ) (cwV 1 hts (lw_V q1813 q1815 qs37 q105 q1816) rfl rfl rfl (by decide +kernel) ⟨Nat.le_of_ble_eq_true rfl, Nat.le_of_ble_eq_true rfl⟩) hK hZ hA hP hD hS [0, 1, 2, 3, 4, 5, 6, 7, 8, 9] [] rfl rfl (by decide) (by decide) (by decide) 0 4 rfl rfl rfl hl.1 (Nat.le_of_ble_eq_true rfl) ⟨Nat.le_of_ble_eq_true rfl, Nat.le_of_ble_eq_true rfl⟩ rfl dX5_turnsOne_10 (fun r9 u9 H locs hw9 hP hD hS => ?_)
    subst hw9
    have hP : va_P G.1 CL (MW G mh md nr nc pL pG pB pk bf hi sv ch hs inp ty er wy wd false lt ln (nI 1) tr mv fo sp wr td) _ := hP
    have hD : va_D A (MW G mh md nr nc pL pG pB pk bf hi sv ch hs inp ty er wy wd false lt ln (nI 1) tr mv fo sp wr td) := hD
    subst hQ
    rw [show oTurn (nr, nc, pL, pG, pB, pk) pa = (1, (nr, nc, pL, pG, pB, pk), nI 0, none) from (if_neg (by rw [c5]; decide))]
    exact ret_i hx hb hr hlk (⟨tr, mv⟩) rfl hP hD hS rfl dX5_turnsOne_13
set_option maxHeartbeats 4000000 in
set_option maxRecDepth 100000 in
theorem m_X5_swaps (l : Launch) (G : GG) (mh : Nat) (md : Nat → Nat) (nr : Nat) (nc : Nat) (pL : Nat → Nat) (pG : Nat → Nat) (pB : Nat → Bool) (pk : Nat → Int32) (bf : Nat → Int32) (hi : Nat → Int32) (sv : Nat → Int32) (ch : Nat) (hs : Bool) (inp : Nat → Nat) (ty : Nat) (er : Int32) (wy : Int32) (wd : Int32) (rf : Bool) (lt : Nat → Nat) (ln : Nat) (th : Int32) (tr : Nat → Nat) (mv : Nat → Nat) (fo : Int32) (sp : Nat) (wr : Bool) (td : Nat → Int32) (pa : Int32) (pb : Int32) (hd : 2 ≤ nr ∧ nr ≤ 3 ∧ 2 ≤ nc ∧ nc ≤ 3) (hLR : ∀ q, q < nr * nc → 97 ≤ pL q ∧ pL q ≤ 108) (hKR : ∀ q, q < nr * nc → pG q = 46 ∨ (97 ≤ pG q ∧ pG q ≤ 108)) : MM l G yX5_swaps cX5_swaps 4 (some .int) ⟨3, 0, 0, 62⟩ [.ref mh, .int pa, .int pb] (MW G mh md nr nc pL pG pB pk bf hi sv ch hs inp ty er wy wd rf lt ln th tr mv fo sp wr td) (Qi_ G (fun (r : Int32) (u : (Nat → Nat)) => r = (oSwap (nr, nc, pL, pG, pB, pk) pa pb).2.2.1) (fun (u : (Nat → Nat)) => (MW G mh md ((oSwap (nr, nc, pL, pG, pB, pk) pa pb).2.1.1) ((oSwap (nr, nc, pL, pG, pB, pk) pa pb).2.1.2.1) ((oSwap (nr, nc, pL, pG, pB, pk) pa pb).2.1.2.2.1) ((oSwap (nr, nc, pL, pG, pB, pk) pa pb).2.1.2.2.2.1) ((oSwap (nr, nc, pL, pG, pB, pk) pa pb).2.1.2.2.2.2.1) ((oSwap (nr, nc, pL, pG, pB, pk) pa pb).2.1.2.2.2.2.2) bf hi sv ch hs inp ty er (oWy (oSwap (nr, nc, pL, pG, pB, pk) pa pb) wy) (oWd (oSwap (nr, nc, pL, pG, pB, pk) pa pb) wd) (oRf (oSwap (nr, nc, pL, pG, pB, pk) pa pb) rf) lt ln (nI (oSwap (nr, nc, pL, pG, pB, pk) pa pb).1) u mv fo sp wr td))) := by
  refine MM.of (by decide) (Nat.le_of_ble_eq_true rfl) ?_
  intro p e s m args below meth cd A C hini hA hK hZ hP hD ls hl
  generalize hQ : MQ below ((Qi_ G (fun (r : Int32) (u : (Nat → Nat)) => r = (oSwap (nr, nc, pL, pG, pB, pk) pa pb).2.2.1) (fun (u : (Nat → Nat)) => (MW G mh md ((oSwap (nr, nc, pL, pG, pB, pk) pa pb).2.1.1) ((oSwap (nr, nc, pL, pG, pB, pk) pa pb).2.1.2.1) ((oSwap (nr, nc, pL, pG, pB, pk) pa pb).2.1.2.2.1) ((oSwap (nr, nc, pL, pG, pB, pk) pa pb).2.1.2.2.2.1) ((oSwap (nr, nc, pL, pG, pB, pk) pa pb).2.1.2.2.2.2.1) ((oSwap (nr, nc, pL, pG, pB, pk) pa pb).2.1.2.2.2.2.2) bf hi sv ch hs inp ty er (oWy (oSwap (nr, nc, pL, pG, pB, pk) pa pb) wy) (oWd (oSwap (nr, nc, pL, pG, pB, pk) pa pb) wd) (oRf (oSwap (nr, nc, pL, pG, pB, pk) pa pb) rf) lt ln (nI (oSwap (nr, nc, pL, pG, pB, pk) pa pb).1) u mv fo sp wr td))) A) args s (⟨3, 0, 0, 62⟩ : Room).cells (⟨3, 0, 0, 62⟩ : Room).slots A = Q
  obtain ⟨hx, hb, hr, hts, hown, hlk, hml⟩ := C
  have hown : s.vm.findClass RX5 = some m.cls := hown
  have hS : va_S A s.heap s.heap [] := va_S.rf
  have hl : lv_has ls 4 [(0, .ref mh), (1, .int pa), (2, .int pb)] := hl
  have hmu := dm_mul hd
  refine lv_aload_n hx hb dX5_swaps_0 rfl (lv_at hl 0 rfl) ?_
  refine lv_iload_n hx hb dX5_swaps_1 rfl (lv_at hl 1 rfl) ?_
  refine callVi (As := [.int pa]) (rest := []) (wc := (MW G mh md nr nc pL pG pB pk bf hi sv ch hs inp ty er wy wd rf lt ln th tr mv fo sp wr td)) (wr := ([] : va_W)) ⟨hx, hb, hml, hown, hts⟩ (m_X5_isPlace l G mh md nr nc pL pG pB pk bf hi sv ch hs inp ty er wy wd rf lt ln th tr mv fo sp wr td pa (by first | assumption | omega)) (cwV 1 hts (lw_V q1837 q1839 qs42 q105 q1840) rfl rfl rfl (by decide +kernel) ⟨Nat.le_of_ble_eq_true rfl, Nat.le_of_ble_eq_true rfl⟩) hK hZ hA hP hD hS [0, 1, 2, 3, 4, 5, 6, 7, 8, 9] [] rfl rfl (by decide) (by decide) (by decide) 0 4 rfl rfl rfl hl.1 (Nat.le_of_ble_eq_true rfl) ⟨Nat.le_of_ble_eq_true rfl, Nat.le_of_ble_eq_true rfl⟩ rfl dX5_swaps_2 (fun r9 u9 H locs hw9 hP hD hS => ?_)
  subst hw9
  have hP : va_P G.1 CL (MW G mh md nr nc pL pG pB pk bf hi sv ch hs inp ty er wy wd rf lt ln th tr mv fo sp wr td) _ := hP
  have hD : va_D A (MW G mh md nr nc pL pG pB pk bf hi sv ch hs inp ty er wy wd rf lt ln th tr mv fo sp wr td) := hD
  refine b_if_eq (tgt := 16) hx hb dX5_swaps_5 (by decide) (fun c5 => ?_) (fun c5 => ?_)
  · skip
    refine lv_aload_n hx hb dX5_swaps_16 rfl (lv_at hl 0 rfl) ?_
    refine lv_iconst (v := nI 1) hx hb dX5_swaps_17 (by decide) ?_
    refine callVi (As := [.int (nI 1)]) (rest := []) (wc := (MW G mh md nr nc pL pG pB pk bf hi sv ch hs inp ty er wy wd rf lt ln th tr mv fo sp wr td)) (wr := ([] : va_W)) ⟨hx, hb, hml, hown, hts⟩ (m_X5_fails l G mh md nr nc pL pG pB pk bf hi sv ch hs inp ty er wy wd rf lt ln th tr mv fo sp wr td (nI 1) ) (cwV 1 hts (lw_V q1813 q1815 qs37 q105 q1816) rfl rfl rfl (by decide +kernel) ⟨Nat.le_of_ble_eq_true rfl, Nat.le_of_ble_eq_true rfl⟩) hK hZ hA hP hD hS [0, 1, 2, 3, 4, 5, 6, 7, 8, 9] [] rfl rfl (by decide) (by decide) (by decide) 0 4 rfl rfl rfl hl.1 (Nat.le_of_ble_eq_true rfl) ⟨Nat.le_of_ble_eq_true rfl, Nat.le_of_ble_eq_true rfl⟩ rfl dX5_swaps_18 (fun r9 u9 H locs hw9 hP hD hS => ?_)
    subst hw9
    have hP : va_P G.1 CL (MW G mh md nr nc pL pG pB pk bf hi sv ch hs inp ty er wy wd false lt ln (nI 1) tr mv fo sp wr td) _ := hP
    have hD : va_D A (MW G mh md nr nc pL pG pB pk bf hi sv ch hs inp ty er wy wd false lt ln (nI 1) tr mv fo sp wr td) := hD
    subst hQ
    rw [show oSwap (nr, nc, pL, pG, pB, pk) pa pb = (1, (nr, nc, pL, pG, pB, pk), nI 0, none) from (if_neg (by intro z; rw [Bool.and_eq_true] at z; first | (rw [c5] at z; exact absurd z.1 (by decide)) | (rw [c13] at z; exact absurd z.2 (by decide))))]
    exact ret_i hx hb hr hlk tr rfl hP hD hS rfl dX5_swaps_21
  · skip
    refine lv_aload_n hx hb dX5_swaps_8 rfl (lv_at hl 0 rfl) ?_
    refine lv_iload_n hx hb dX5_swaps_9 rfl (lv_at hl 2 rfl) ?_
    refine callVi (As := [.int pb]) (rest := []) (wc := (MW G mh md nr nc pL pG pB pk bf hi sv ch hs inp ty er wy wd rf lt ln th tr mv fo sp wr td)) (wr := ([] : va_W)) ⟨hx, hb, hml, hown, hts⟩ (m_X5_isPlace l G mh md nr nc pL pG pB pk bf hi sv ch hs inp ty er wy wd rf lt ln th tr mv fo sp wr td pb (by first | assumption | omega)) (cwV 1 hts (lw_V q1837 q1839 qs42 q105 q1840) rfl rfl rfl (by decide +kernel) ⟨Nat.le_of_ble_eq_true rfl, Nat.le_of_ble_eq_true rfl⟩) hK hZ hA hP hD hS [0, 1, 2, 3, 4, 5, 6, 7, 8, 9] [] rfl rfl (by decide) (by decide) (by decide) 0 4 rfl rfl rfl hl.1 (Nat.le_of_ble_eq_true rfl) ⟨Nat.le_of_ble_eq_true rfl, Nat.le_of_ble_eq_true rfl⟩ rfl dX5_swaps_10 (fun r9 u9 H locs hw9 hP hD hS => ?_)
    subst hw9
    have hP : va_P G.1 CL (MW G mh md nr nc pL pG pB pk bf hi sv ch hs inp ty er wy wd rf lt ln th tr mv fo sp wr td) _ := hP
    have hD : va_D A (MW G mh md nr nc pL pG pB pk bf hi sv ch hs inp ty er wy wd rf lt ln th tr mv fo sp wr td) := hD
    refine b_if_ne (tgt := 22) hx hb dX5_swaps_13 (by decide) (fun c13 => ?_) (fun c13 => ?_)
    · skip
      obtain ⟨ka, hka, rfl⟩ := isIx_t c5 (by omega)
      obtain ⟨kb, hkb, rfl⟩ := isIx_t c13 (by omega)
      refine lv_iload_n hx hb dX5_swaps_22 rfl (lv_at hl 1 rfl) ?_
      refine lv_iload_n hx hb dX5_swaps_23 rfl (lv_at hl 2 rfl) ?_
      refine n_cmp_ne (tgt := 35) hx hb dX5_swaps_24 (by decide) (by omega) (by omega) (fun c24 => ?_) (fun c24 => ?_)
      · skip
        refine lv_aload_n hx hb dX5_swaps_35 rfl (lv_at hl 0 rfl) ?_
        refine va_get (D := G.1) (ci := 4) (v := .ref (md 0)) (C := RX5) (T := TX5) (N := 21) hx hb hts in_X5 hown hK hP 0 rfl rfl 0 (by decide) (hts _ q1727) (fun _ h9 => h9) rfl dX5_swaps_36 ?_
        refine lv_bipush (v := nI 14) hx hb dX5_swaps_39 (by decide) ?_
        refine lv_iload_n hx hb dX5_swaps_41 rfl (lv_at hl 1 rfl) ?_
        refine n_iadd hx hb dX5_swaps_42 ?_
        refine r_iald hx hb hK hP 1 3 rfl rfl (by omega) (by decide) dX5_swaps_43 ?_
        refine eq_i (y := nI (pL ka - 97)) (gZ_c (by omega)) ?_
        refine lv_istore_n (lv' := [(3, .int (nI (pL ka - 97))), (0, .ref mh), (1, .int (nI ka)), (2, .int (nI kb))]) hx hb dX5_swaps_44 rfl hl (by decide) rfl (fun ls hl => ?_)
        refine lv_aload_n hx hb dX5_swaps_45 rfl (lv_at hl 1 rfl) ?_
        refine va_get (D := G.1) (ci := 4) (v := .ref (md 0)) (C := RX5) (T := TX5) (N := 21) hx hb hts in_X5 hown hK hP 0 rfl rfl 0 (by decide) (hts _ q1727) (fun _ h9 => h9) rfl dX5_swaps_46 ?_
        refine lv_bipush (v := nI 14) hx hb dX5_swaps_49 (by decide) ?_
        refine lv_iload_n hx hb dX5_swaps_51 rfl (lv_at hl 2 rfl) ?_
        refine n_iadd hx hb dX5_swaps_52 ?_
        refine lv_aload_n hx hb dX5_swaps_53 rfl (lv_at hl 1 rfl) ?_
        refine va_get (D := G.1) (ci := 4) (v := .ref (md 0)) (C := RX5) (T := TX5) (N := 21) hx hb hts in_X5 hown hK hP 0 rfl rfl 0 (by decide) (hts _ q1727) (fun _ h9 => h9) rfl dX5_swaps_54 ?_
        refine lv_bipush (v := nI 14) hx hb dX5_swaps_57 (by decide) ?_
        refine lv_iload_n hx hb dX5_swaps_59 rfl (lv_at hl 3 rfl) ?_
        refine n_iadd hx hb dX5_swaps_60 ?_
        refine r_iald hx hb hK hP 1 3 rfl rfl (by omega) (by decide) dX5_swaps_61 ?_
        refine eq_i (y := nI (pL kb - 97)) (gZ_c (by omega)) ?_
        refine r_iast hx hb hK hP hD hS 1 3 rfl rfl (by omega) (by decide) dX5_swaps_62 (fun H locs hP hD hS => ?_)
        rw [show va_up (gZ (nr, nc, pL, pG, pB, pk)) (14 + ka) (nI (pL kb - 97)) = (gZ (nr, nc, (va_up pL ka (97 + (pL kb - 97))), pG, pB, pk)) from (gZ_sc (by omega))] at hP hD
        have hP : va_P G.1 CL (MW G mh md nr nc (va_up pL ka (97 + (pL kb - 97))) pG pB pk bf hi sv ch hs inp ty er wy wd rf lt ln th tr mv fo sp wr td) _ := hP
        have hD : va_D A (MW G mh md nr nc (va_up pL ka (97 + (pL kb - 97))) pG pB pk bf hi sv ch hs inp ty er wy wd rf lt ln th tr mv fo sp wr td) := hD
        refine lv_aload_n hx hb dX5_swaps_63 rfl (lv_at hl 1 rfl) ?_
        refine va_get (D := G.1) (ci := 4) (v := .ref (md 0)) (C := RX5) (T := TX5) (N := 21) hx hb hts in_X5 hown hK hP 0 rfl rfl 0 (by decide) (hts _ q1727) (fun _ h9 => h9) rfl dX5_swaps_64 ?_
        refine lv_bipush (v := nI 14) hx hb dX5_swaps_67 (by decide) ?_
        refine lv_iload_n hx hb dX5_swaps_69 rfl (lv_at hl 3 rfl) ?_
        refine n_iadd hx hb dX5_swaps_70 ?_
        refine lv_iload_n hx hb dX5_swaps_71 rfl (lv_at hl 0 rfl) ?_
        refine r_iast hx hb hK hP hD hS 1 3 rfl rfl (by omega) (by decide) dX5_swaps_72 (fun H locs hP hD hS => ?_)
        rw [show va_up (gZ (nr, nc, (va_up pL ka (97 + (pL kb - 97))), pG, pB, pk)) (14 + kb) (nI (pL ka - 97)) = (gZ (nr, nc, (va_up (va_up pL ka (97 + (pL kb - 97))) kb (97 + (pL ka - 97))), pG, pB, pk)) from (gZ_sc (by omega))] at hP hD
        have hP : va_P G.1 CL (MW G mh md nr nc (va_up (va_up pL ka (97 + (pL kb - 97))) kb (97 + (pL ka - 97))) pG pB pk bf hi sv ch hs inp ty er wy wd rf lt ln th tr mv fo sp wr td) _ := hP
        have hD : va_D A (MW G mh md nr nc (va_up (va_up pL ka (97 + (pL kb - 97))) kb (97 + (pL ka - 97))) pG pB pk bf hi sv ch hs inp ty er wy wd rf lt ln th tr mv fo sp wr td) := hD
        rw [show (va_up (va_up pL ka (97 + (pL kb - 97))) kb (97 + (pL ka - 97))) = (swL pL ka kb) from (sw_eq hLR hka hkb)] at hP hD
        refine lv_aload_n hx hb dX5_swaps_73 rfl (lv_at hl 1 rfl) ?_
        refine va_get (D := G.1) (ci := 4) (v := .ref (md 0)) (C := RX5) (T := TX5) (N := 21) hx hb hts in_X5 hown hK hP 0 rfl rfl 0 (by decide) (hts _ q1727) (fun _ h9 => h9) rfl dX5_swaps_74 ?_
        refine lv_iconst (v := nI 3) hx hb dX5_swaps_77 (by decide) ?_
        refine lv_dup2_11 hx hb dX5_swaps_78 rfl rfl ?_
        refine r_iald hx hb hK hP 1 3 rfl rfl (by omega) (by decide) dX5_swaps_79 ?_
        refine eq_i (y := (pk 1)) rfl ?_
        refine lv_iconst (v := nI 1) hx hb dX5_swaps_80 (by decide) ?_
        refine lv_iadd hx hb dX5_swaps_81 ?_
        refine r_iast hx hb hK hP hD hS 1 3 rfl rfl (by omega) (by decide) dX5_swaps_82 (fun H locs hP hD hS => ?_)
        rw [show va_up (gZ (nr, nc, (swL pL ka kb), pG, pB, pk)) 3 ((pk 1) + (nI 1)) = (gZ (nr, nc, (swL pL ka kb), pG, pB, (va_up pk 1 ((pk 1) + (nI 1))))) from (gZ_sk (j := 1) (by decide))] at hP hD
        have hP : va_P G.1 CL (MW G mh md nr nc (swL pL ka kb) pG pB (va_up pk 1 ((pk 1) + (nI 1))) bf hi sv ch hs inp ty er wy wd rf lt ln th tr mv fo sp wr td) _ := hP
        have hD : va_D A (MW G mh md nr nc (swL pL ka kb) pG pB (va_up pk 1 ((pk 1) + (nI 1))) bf hi sv ch hs inp ty er wy wd rf lt ln th tr mv fo sp wr td) := hD
        refine lv_aload_n hx hb dX5_swaps_83 rfl (lv_at hl 1 rfl) ?_
        refine lv_aload_n hx hb dX5_swaps_84 rfl (lv_at hl 1 rfl) ?_
        refine callVi (As := []) (rest := [.ref mh]) (wc := (MW G mh md nr nc (swL pL ka kb) pG pB (va_up pk 1 ((pk 1) + (nI 1))) bf hi sv ch hs inp ty er wy wd rf lt ln th tr mv fo sp wr td)) (wr := ([] : va_W)) ⟨hx, hb, hml, hown, hts⟩ (m_X5_homes l G mh md nr nc (swL pL ka kb) pG pB (va_up pk 1 ((pk 1) + (nI 1))) bf hi sv ch hs inp ty er wy wd rf lt ln th tr mv fo sp wr td (by first | assumption | omega) (swL_rg hLR hka hkb) (by first | assumption | omega)) (cwV 0 hts (lw_V q1887 q1889 qs51 q105 q1890) rfl rfl rfl (by decide +kernel) ⟨Nat.le_of_ble_eq_true rfl, Nat.le_of_ble_eq_true rfl⟩) hK hZ hA hP hD hS [0, 1, 2, 3, 4, 5, 6, 7, 8, 9] [] rfl rfl (by decide) (by decide) (by decide) 0 4 rfl rfl rfl hl.1 (Nat.le_of_ble_eq_true rfl) ⟨Nat.le_of_ble_eq_true rfl, Nat.le_of_ble_eq_true rfl⟩ rfl dX5_swaps_85 (fun r9 u9 H locs hw9 hP hD hS => ?_)
        obtain ⟨tr1_4, e9⟩ : ∃ z, z = u9 := ⟨_, rfl⟩
        subst e9
        obtain ⟨hr9, hw85⟩ := hw9
        subst hr9
        have hw85 : ∀ q, q < nr * nc → tr1_4 q = (swL pL ka kb) q - 97 := hw85
        have hP : va_P G.1 CL (MW G mh md nr nc (swL pL ka kb) pG pB (va_up pk 1 ((pk 1) + (nI 1))) bf hi sv ch hs inp ty er wy wd rf lt ln th tr1_4 mv fo sp wr td) _ := hP
        have hD : va_D A (MW G mh md nr nc (swL pL ka kb) pG pB (va_up pk 1 ((pk 1) + (nI 1))) bf hi sv ch hs inp ty er wy wd rf lt ln th tr1_4 mv fo sp wr td) := hD
        refine callVi (As := [.int (nI (hm nr nc (swL pL ka kb) pG))]) (rest := []) (wc := (MW G mh md nr nc (swL pL ka kb) pG pB (va_up pk 1 ((pk 1) + (nI 1))) bf hi sv ch hs inp ty er wy wd rf lt ln th tr1_4 mv fo sp wr td)) (wr := ([] : va_W)) ⟨hx, hb, hml, hown, hts⟩ (m_X5_done l G mh md nr nc (swL pL ka kb) pG pB (va_up pk 1 ((pk 1) + (nI 1))) bf hi sv ch hs inp ty er wy wd rf lt ln th tr1_4 mv fo sp wr td (nI (hm nr nc (swL pL ka kb) pG)) ) (cwV 1 hts (lw_V q1821 q1823 qs39 q105 q1824) rfl rfl rfl (by decide +kernel) ⟨Nat.le_of_ble_eq_true rfl, Nat.le_of_ble_eq_true rfl⟩) hK hZ hA hP hD hS [0, 1, 2, 3, 4, 5, 6, 7, 8, 9] [] rfl rfl (by decide) (by decide) (by decide) 0 4 rfl rfl rfl hl.1 (Nat.le_of_ble_eq_true rfl) ⟨Nat.le_of_ble_eq_true rfl, Nat.le_of_ble_eq_true rfl⟩ rfl dX5_swaps_88 (fun r9 u9 H locs hw9 hP hD hS => ?_)
        subst hw9
        have hP : va_P G.1 CL (MW G mh md nr nc (swL pL ka kb) pG pB (va_up pk 1 ((pk 1) + (nI 1))) bf hi sv ch hs inp ty er wy wd rf lt ln (nI 0) tr1_4 mv fo sp wr td) _ := hP
        have hD : va_D A (MW G mh md nr nc (swL pL ka kb) pG pB (va_up pk 1 ((pk 1) + (nI 1))) bf hi sv ch hs inp ty er wy wd rf lt ln (nI 0) tr1_4 mv fo sp wr td) := hD
        subst hQ
        rw [show oSwap (nr, nc, pL, pG, pB, pk) (nI ka) (nI kb) = (0, (nr, nc, (swL pL ka kb), pG, pB, (va_up pk 1 ((pk 1) + (nI 1)))), (nI (hm nr nc (swL pL ka kb) pG)), none) from (by unfold oSwap; rw [if_pos (by rw [c5, c13]; rfl), if_neg (fun z => c24 ((nI_eq (by omega) (by omega)).mp z)), cl_n (by omega), cl_n (by omega)]; rfl)]
        exact ret_i hx hb hr hlk tr1_4 rfl hP hD hS rfl dX5_swaps_91
      · skip
        refine lv_aload_n hx hb dX5_swaps_27 rfl (lv_at hl 0 rfl) ?_
        refine lv_iconst (v := nI 3) hx hb dX5_swaps_28 (by decide) ?_
        refine lv_iload_n hx hb dX5_swaps_29 rfl (lv_at hl 1 rfl) ?_
        refine lv_iconst (v := nI 2) hx hb dX5_swaps_30 (by decide) ?_
        refine callVi (As := [.int (nI 3), .int (nI ka), .int (nI 2)]) (rest := []) (wc := (MW G mh md nr nc pL pG pB pk bf hi sv ch hs inp ty er wy wd rf lt ln th tr mv fo sp wr td)) (wr := ([] : va_W)) ⟨hx, hb, hml, hown, hts⟩ (m_X5_refused l G mh md nr nc pL pG pB pk bf hi sv ch hs inp ty er wy wd rf lt ln th tr mv fo sp wr td (nI 3) (nI ka) (nI 2) ) (cwV 3 hts (lw_V q1848 q1850 qs44 q105 q1851) rfl rfl rfl (by decide +kernel) ⟨Nat.le_of_ble_eq_true rfl, Nat.le_of_ble_eq_true rfl⟩) hK hZ hA hP hD hS [0, 1, 2, 3, 4, 5, 6, 7, 8, 9] [] rfl rfl (by decide) (by decide) (by decide) 0 4 rfl rfl rfl hl.1 (Nat.le_of_ble_eq_true rfl) ⟨Nat.le_of_ble_eq_true rfl, Nat.le_of_ble_eq_true rfl⟩ rfl dX5_swaps_31 (fun r9 u9 H locs hw9 hP hD hS => ?_)
        subst hw9
        have hP : va_P G.1 CL (MW G mh md nr nc pL pG pB pk bf hi sv ch hs inp ty er (nI 3) (nI ka) true lt ln (nI 2) tr mv fo sp wr td) _ := hP
        have hD : va_D A (MW G mh md nr nc pL pG pB pk bf hi sv ch hs inp ty er (nI 3) (nI ka) true lt ln (nI 2) tr mv fo sp wr td) := hD
        subst hQ
        rw [show oSwap (nr, nc, pL, pG, pB, pk) (nI ka) (nI kb) = (2, (nr, nc, pL, pG, pB, pk), nI 0, some ((nI 3), (nI ka))) from (by unfold oSwap; rw [if_pos (by rw [c5, c13]; rfl), if_pos (congrArg nI c24)])]
        exact ret_i hx hb hr hlk tr rfl hP hD hS rfl dX5_swaps_34
    · skip
      refine lv_aload_n hx hb dX5_swaps_16 rfl (lv_at hl 0 rfl) ?_
      refine lv_iconst (v := nI 1) hx hb dX5_swaps_17 (by decide) ?_
      refine callVi (As := [.int (nI 1)]) (rest := []) (wc := (MW G mh md nr nc pL pG pB pk bf hi sv ch hs inp ty er wy wd rf lt ln th tr mv fo sp wr td)) (wr := ([] : va_W)) ⟨hx, hb, hml, hown, hts⟩ (m_X5_fails l G mh md nr nc pL pG pB pk bf hi sv ch hs inp ty er wy wd rf lt ln th tr mv fo sp wr td (nI 1) ) (cwV 1 hts (lw_V q1813 q1815 qs37 q105 q1816) rfl rfl rfl (by decide +kernel) ⟨Nat.le_of_ble_eq_true rfl, Nat.le_of_ble_eq_true rfl⟩) hK hZ hA hP hD hS [0, 1, 2, 3, 4, 5, 6, 7, 8, 9] [] rfl rfl (by decide) (by decide) (by decide) 0 4 rfl rfl rfl hl.1 (Nat.le_of_ble_eq_true rfl) ⟨Nat.le_of_ble_eq_true rfl, Nat.le_of_ble_eq_true rfl⟩ rfl dX5_swaps_18 (fun r9 u9 H locs hw9 hP hD hS => ?_)
      subst hw9
      have hP : va_P G.1 CL (MW G mh md nr nc pL pG pB pk bf hi sv ch hs inp ty er wy wd false lt ln (nI 1) tr mv fo sp wr td) _ := hP
      have hD : va_D A (MW G mh md nr nc pL pG pB pk bf hi sv ch hs inp ty er wy wd false lt ln (nI 1) tr mv fo sp wr td) := hD
      subst hQ
      rw [show oSwap (nr, nc, pL, pG, pB, pk) pa pb = (1, (nr, nc, pL, pG, pB, pk), nI 0, none) from (if_neg (by intro z; rw [Bool.and_eq_true] at z; first | (rw [c5] at z; exact absurd z.1 (by decide)) | (rw [c13] at z; exact absurd z.2 (by decide))))]
      exact ret_i hx hb hr hlk tr rfl hP hD hS rfl dX5_swaps_21
set_option maxHeartbeats 4000000 in
set_option maxRecDepth 100000 in
theorem m_X5_bars (l : Launch) (G : GG) (mh : Nat) (md : Nat → Nat) (nr : Nat) (nc : Nat) (pL : Nat → Nat) (pG : Nat → Nat) (pB : Nat → Bool) (pk : Nat → Int32) (bf : Nat → Int32) (hi : Nat → Int32) (sv : Nat → Int32) (ch : Nat) (hs : Bool) (inp : Nat → Nat) (ty : Nat) (er : Int32) (wy : Int32) (wd : Int32) (rf : Bool) (lt : Nat → Nat) (ln : Nat) (th : Int32) (tr : Nat → Nat) (mv : Nat → Nat) (fo : Int32) (sp : Nat) (wr : Bool) (td : Nat → Int32) (pa : Int32) (hd : 2 ≤ nr ∧ nr ≤ 3 ∧ 2 ≤ nc ∧ nc ≤ 3) : MM l G yX5_bars cX5_bars 2 (some .int) ⟨2, 0, 0, 43⟩ [.ref mh, .int pa] (MW G mh md nr nc pL pG pB pk bf hi sv ch hs inp ty er wy wd rf lt ln th tr mv fo sp wr td) (Qi_ G (fun (r : Int32) (_ : Unit) => r = (oBar (nr, nc, pL, pG, pB, pk) pa).2.2.1) (fun (_ : Unit) => (MW G mh md ((oBar (nr, nc, pL, pG, pB, pk) pa).2.1.1) ((oBar (nr, nc, pL, pG, pB, pk) pa).2.1.2.1) ((oBar (nr, nc, pL, pG, pB, pk) pa).2.1.2.2.1) ((oBar (nr, nc, pL, pG, pB, pk) pa).2.1.2.2.2.1) ((oBar (nr, nc, pL, pG, pB, pk) pa).2.1.2.2.2.2.1) ((oBar (nr, nc, pL, pG, pB, pk) pa).2.1.2.2.2.2.2) bf hi sv ch hs inp ty er (oWy (oBar (nr, nc, pL, pG, pB, pk) pa) wy) (oWd (oBar (nr, nc, pL, pG, pB, pk) pa) wd) (oRf (oBar (nr, nc, pL, pG, pB, pk) pa) rf) lt ln (nI (oBar (nr, nc, pL, pG, pB, pk) pa).1) tr mv fo sp wr td))) := by
  refine MM.of (by decide) (Nat.le_of_ble_eq_true rfl) ?_
  intro p e s m args below meth cd A C hini hA hK hZ hP hD ls hl
  generalize hQ : MQ below ((Qi_ G (fun (r : Int32) (_ : Unit) => r = (oBar (nr, nc, pL, pG, pB, pk) pa).2.2.1) (fun (_ : Unit) => (MW G mh md ((oBar (nr, nc, pL, pG, pB, pk) pa).2.1.1) ((oBar (nr, nc, pL, pG, pB, pk) pa).2.1.2.1) ((oBar (nr, nc, pL, pG, pB, pk) pa).2.1.2.2.1) ((oBar (nr, nc, pL, pG, pB, pk) pa).2.1.2.2.2.1) ((oBar (nr, nc, pL, pG, pB, pk) pa).2.1.2.2.2.2.1) ((oBar (nr, nc, pL, pG, pB, pk) pa).2.1.2.2.2.2.2) bf hi sv ch hs inp ty er (oWy (oBar (nr, nc, pL, pG, pB, pk) pa) wy) (oWd (oBar (nr, nc, pL, pG, pB, pk) pa) wd) (oRf (oBar (nr, nc, pL, pG, pB, pk) pa) rf) lt ln (nI (oBar (nr, nc, pL, pG, pB, pk) pa).1) tr mv fo sp wr td))) A) args s (⟨2, 0, 0, 43⟩ : Room).cells (⟨2, 0, 0, 43⟩ : Room).slots A = Q
  obtain ⟨hx, hb, hr, hts, hown, hlk, hml⟩ := C
  have hown : s.vm.findClass RX5 = some m.cls := hown
  have hS : va_S A s.heap s.heap [] := va_S.rf
  have hl : lv_has ls 2 [(0, .ref mh), (1, .int pa)] := hl
  have hmu := dm_mul hd
  refine lv_aload_n hx hb dX5_bars_0 rfl (lv_at hl 0 rfl) ?_
  refine lv_iload_n hx hb dX5_bars_1 rfl (lv_at hl 1 rfl) ?_
  refine callVi (As := [.int pa]) (rest := []) (wc := (MW G mh md nr nc pL pG pB pk bf hi sv ch hs inp ty er wy wd rf lt ln th tr mv fo sp wr td)) (wr := ([] : va_W)) ⟨hx, hb, hml, hown, hts⟩ (m_X5_isLine l G mh md nr nc pL pG pB pk bf hi sv ch hs inp ty er wy wd rf lt ln th tr mv fo sp wr td pa (by first | assumption | omega)) (cwV 1 hts (lw_V q1931 q1933 qs60 q105 q1934) rfl rfl rfl (by decide +kernel) ⟨Nat.le_of_ble_eq_true rfl, Nat.le_of_ble_eq_true rfl⟩) hK hZ hA hP hD hS [0, 1, 2, 3, 4, 5, 6, 7, 8, 9] [] rfl rfl (by decide) (by decide) (by decide) 0 4 rfl rfl rfl hl.1 (Nat.le_of_ble_eq_true rfl) ⟨Nat.le_of_ble_eq_true rfl, Nat.le_of_ble_eq_true rfl⟩ rfl dX5_bars_2 (fun r9 u9 H locs hw9 hP hD hS => ?_)
  subst hw9
  have hP : va_P G.1 CL (MW G mh md nr nc pL pG pB pk bf hi sv ch hs inp ty er wy wd rf lt ln th tr mv fo sp wr td) _ := hP
  have hD : va_D A (MW G mh md nr nc pL pG pB pk bf hi sv ch hs inp ty er wy wd rf lt ln th tr mv fo sp wr td) := hD
  refine b_if_ne (tgt := 14) hx hb dX5_bars_5 (by decide) (fun c5 => ?_) (fun c5 => ?_)
  · skip
    obtain ⟨ka, hka, rfl⟩ := isIx_t c5 (by omega)
    refine lv_aload_n hx hb dX5_bars_14 rfl (lv_at hl 0 rfl) ?_
    refine va_get (D := G.1) (ci := 4) (v := .ref (md 0)) (C := RX5) (T := TX5) (N := 21) hx hb hts in_X5 hown hK hP 0 rfl rfl 0 (by decide) (hts _ q1727) (fun _ h9 => h9) rfl dX5_bars_15 ?_
    refine lv_bipush (v := nI 8) hx hb dX5_bars_18 (by decide) ?_
    refine lv_iload_n hx hb dX5_bars_20 rfl (lv_at hl 1 rfl) ?_
    refine n_iadd hx hb dX5_bars_21 ?_
    refine lv_iconst (v := nI 1) hx hb dX5_bars_22 (by decide) ?_
    refine lv_aload_n hx hb dX5_bars_23 rfl (lv_at hl 0 rfl) ?_
    refine va_get (D := G.1) (ci := 4) (v := .ref (md 0)) (C := RX5) (T := TX5) (N := 21) hx hb hts in_X5 hown hK hP 0 rfl rfl 0 (by decide) (hts _ q1727) (fun _ h9 => h9) rfl dX5_bars_24 ?_
    refine lv_bipush (v := nI 8) hx hb dX5_bars_27 (by decide) ?_
    refine lv_iload_n hx hb dX5_bars_29 rfl (lv_at hl 1 rfl) ?_
    refine n_iadd hx hb dX5_bars_30 ?_
    refine r_iald hx hb hK hP 1 3 rfl rfl (by omega) (by decide) dX5_bars_31 ?_
    refine eq_i (y := bI (pB ka)) (gZ_b (by omega)) ?_
    refine lv_isub hx hb dX5_bars_32 ?_
    refine eq_i (y := bI (!pB ka)) (by cases pB ka <;> decide) ?_
    refine r_iast hx hb hK hP hD hS 1 3 rfl rfl (by omega) (by decide) dX5_bars_33 (fun H locs hP hD hS => ?_)
    rw [show va_up (gZ (nr, nc, pL, pG, pB, pk)) (8 + ka) (bI (!pB ka)) = (gZ (nr, nc, pL, pG, (va_up pB ka (!pB ka)), pk)) from (gZ_sb (b := (!pB ka)) (by omega))] at hP hD
    have hP : va_P G.1 CL (MW G mh md nr nc pL pG (va_up pB ka (!pB ka)) pk bf hi sv ch hs inp ty er wy wd rf lt ln th tr mv fo sp wr td) _ := hP
    have hD : va_D A (MW G mh md nr nc pL pG (va_up pB ka (!pB ka)) pk bf hi sv ch hs inp ty er wy wd rf lt ln th tr mv fo sp wr td) := hD
    refine lv_aload_n hx hb dX5_bars_34 rfl (lv_at hl 0 rfl) ?_
    refine lv_aload_n hx hb dX5_bars_35 rfl (lv_at hl 0 rfl) ?_
    refine va_get (D := G.1) (ci := 4) (v := .ref (md 0)) (C := RX5) (T := TX5) (N := 21) hx hb hts in_X5 hown hK hP 0 rfl rfl 0 (by decide) (hts _ q1727) (fun _ h9 => h9) rfl dX5_bars_36 ?_
    refine lv_bipush (v := nI 8) hx hb dX5_bars_39 (by decide) ?_
    refine lv_iload_n hx hb dX5_bars_41 rfl (lv_at hl 1 rfl) ?_
    refine n_iadd hx hb dX5_bars_42 ?_
    refine r_iald hx hb hK hP 1 3 rfl rfl (by omega) (by decide) dX5_bars_43 ?_
    refine eq_i (y := bI ((va_up pB ka (!pB ka)) ka)) (gZ_b (by omega)) ?_
    refine callVi (As := [.int (bI ((va_up pB ka (!pB ka)) ka))]) (rest := []) (wc := (MW G mh md nr nc pL pG (va_up pB ka (!pB ka)) pk bf hi sv ch hs inp ty er wy wd rf lt ln th tr mv fo sp wr td)) (wr := ([] : va_W)) ⟨hx, hb, hml, hown, hts⟩ (m_X5_done l G mh md nr nc pL pG (va_up pB ka (!pB ka)) pk bf hi sv ch hs inp ty er wy wd rf lt ln th tr mv fo sp wr td (bI ((va_up pB ka (!pB ka)) ka)) ) (cwV 1 hts (lw_V q1821 q1823 qs39 q105 q1824) rfl rfl rfl (by decide +kernel) ⟨Nat.le_of_ble_eq_true rfl, Nat.le_of_ble_eq_true rfl⟩) hK hZ hA hP hD hS [0, 1, 2, 3, 4, 5, 6, 7, 8, 9] [] rfl rfl (by decide) (by decide) (by decide) 0 4 rfl rfl rfl hl.1 (Nat.le_of_ble_eq_true rfl) ⟨Nat.le_of_ble_eq_true rfl, Nat.le_of_ble_eq_true rfl⟩ rfl dX5_bars_44 (fun r9 u9 H locs hw9 hP hD hS => ?_)
    subst hw9
    have hP : va_P G.1 CL (MW G mh md nr nc pL pG (va_up pB ka (!pB ka)) pk bf hi sv ch hs inp ty er wy wd rf lt ln (nI 0) tr mv fo sp wr td) _ := hP
    have hD : va_D A (MW G mh md nr nc pL pG (va_up pB ka (!pB ka)) pk bf hi sv ch hs inp ty er wy wd rf lt ln (nI 0) tr mv fo sp wr td) := hD
    subst hQ
    rw [show oBar (nr, nc, pL, pG, pB, pk) (nI ka) = (0, (nr, nc, pL, pG, (va_up pB ka (!pB ka)), pk), (bI ((va_up pB ka (!pB ka)) ka)), none) from (by unfold oBar; rw [if_pos c5, cl_n (by omega)]; simp [va_up])]
    exact ret_i hx hb hr hlk () rfl hP hD hS rfl dX5_bars_47
  · skip
    refine lv_aload_n hx hb dX5_bars_8 rfl (lv_at hl 0 rfl) ?_
    refine lv_iconst (v := nI 1) hx hb dX5_bars_9 (by decide) ?_
    refine callVi (As := [.int (nI 1)]) (rest := []) (wc := (MW G mh md nr nc pL pG pB pk bf hi sv ch hs inp ty er wy wd rf lt ln th tr mv fo sp wr td)) (wr := ([] : va_W)) ⟨hx, hb, hml, hown, hts⟩ (m_X5_fails l G mh md nr nc pL pG pB pk bf hi sv ch hs inp ty er wy wd rf lt ln th tr mv fo sp wr td (nI 1) ) (cwV 1 hts (lw_V q1813 q1815 qs37 q105 q1816) rfl rfl rfl (by decide +kernel) ⟨Nat.le_of_ble_eq_true rfl, Nat.le_of_ble_eq_true rfl⟩) hK hZ hA hP hD hS [0, 1, 2, 3, 4, 5, 6, 7, 8, 9] [] rfl rfl (by decide) (by decide) (by decide) 0 4 rfl rfl rfl hl.1 (Nat.le_of_ble_eq_true rfl) ⟨Nat.le_of_ble_eq_true rfl, Nat.le_of_ble_eq_true rfl⟩ rfl dX5_bars_10 (fun r9 u9 H locs hw9 hP hD hS => ?_)
    subst hw9
    have hP : va_P G.1 CL (MW G mh md nr nc pL pG pB pk bf hi sv ch hs inp ty er wy wd false lt ln (nI 1) tr mv fo sp wr td) _ := hP
    have hD : va_D A (MW G mh md nr nc pL pG pB pk bf hi sv ch hs inp ty er wy wd false lt ln (nI 1) tr mv fo sp wr td) := hD
    subst hQ
    rw [show oBar (nr, nc, pL, pG, pB, pk) pa = (1, (nr, nc, pL, pG, pB, pk), nI 0, none) from (if_neg (by rw [c5]; decide))]
    exact ret_i hx hb hr hlk () rfl hP hD hS rfl dX5_bars_13
set_option maxHeartbeats 4000000 in
set_option maxRecDepth 100000 in
theorem m_X5_scrambles (l : Launch) (G : GG) (mh : Nat) (md : Nat → Nat) (nr : Nat) (nc : Nat) (pL : Nat → Nat) (pG : Nat → Nat) (pB : Nat → Bool) (pk : Nat → Int32) (bf : Nat → Int32) (hi : Nat → Int32) (sv : Nat → Int32) (ch : Nat) (hs : Bool) (inp : Nat → Nat) (ty : Nat) (er : Int32) (wy : Int32) (wd : Int32) (rf : Bool) (lt : Nat → Nat) (ln : Nat) (th : Int32) (tr : Nat → Nat) (mv : Nat → Nat) (fo : Int32) (sp : Nat) (wr : Bool) (td : Nat → Int32) (pa : Int32) (pb : Int32) (hd : 2 ≤ nr ∧ nr ≤ 3 ∧ 2 ≤ nc ∧ nc ≤ 3) (hLR : ∀ q, q < nr * nc → 97 ≤ pL q ∧ pL q ≤ 108) (hKR : ∀ q, q < nr * nc → pG q = 46 ∨ (97 ≤ pG q ∧ pG q ≤ 108)) : MM l G yX5_scrambles cX5_scrambles 8 (some .int) ⟨3, 0, 0, 69⟩ [.ref mh, .int pa, .int pb] (MW G mh md nr nc pL pG pB pk bf hi sv ch hs inp ty er wy wd rf lt ln th tr mv fo sp wr td) (Qi_ G (fun (r : Int32) (u : (Nat → Nat) × (Nat → Nat)) => r = (oScr (nr, nc, pL, pG, pB, pk) pa pb).2.2.1) (fun (u : (Nat → Nat) × (Nat → Nat)) => (MW G mh md ((oScr (nr, nc, pL, pG, pB, pk) pa pb).2.1.1) ((oScr (nr, nc, pL, pG, pB, pk) pa pb).2.1.2.1) ((oScr (nr, nc, pL, pG, pB, pk) pa pb).2.1.2.2.1) ((oScr (nr, nc, pL, pG, pB, pk) pa pb).2.1.2.2.2.1) ((oScr (nr, nc, pL, pG, pB, pk) pa pb).2.1.2.2.2.2.1) ((oScr (nr, nc, pL, pG, pB, pk) pa pb).2.1.2.2.2.2.2) bf hi sv ch hs inp ty er (oWy (oScr (nr, nc, pL, pG, pB, pk) pa pb) wy) (oWd (oScr (nr, nc, pL, pG, pB, pk) pa pb) wd) (oRf (oScr (nr, nc, pL, pG, pB, pk) pa pb) rf) lt ln (nI (oScr (nr, nc, pL, pG, pB, pk) pa pb).1) u.1 u.2 fo sp wr td))) := by
  refine MM.of (by decide) (Nat.le_of_ble_eq_true rfl) ?_
  intro p e s m args below meth cd A C hini hA hK hZ hP hD ls hl
  generalize hQ : MQ below ((Qi_ G (fun (r : Int32) (u : (Nat → Nat) × (Nat → Nat)) => r = (oScr (nr, nc, pL, pG, pB, pk) pa pb).2.2.1) (fun (u : (Nat → Nat) × (Nat → Nat)) => (MW G mh md ((oScr (nr, nc, pL, pG, pB, pk) pa pb).2.1.1) ((oScr (nr, nc, pL, pG, pB, pk) pa pb).2.1.2.1) ((oScr (nr, nc, pL, pG, pB, pk) pa pb).2.1.2.2.1) ((oScr (nr, nc, pL, pG, pB, pk) pa pb).2.1.2.2.2.1) ((oScr (nr, nc, pL, pG, pB, pk) pa pb).2.1.2.2.2.2.1) ((oScr (nr, nc, pL, pG, pB, pk) pa pb).2.1.2.2.2.2.2) bf hi sv ch hs inp ty er (oWy (oScr (nr, nc, pL, pG, pB, pk) pa pb) wy) (oWd (oScr (nr, nc, pL, pG, pB, pk) pa pb) wd) (oRf (oScr (nr, nc, pL, pG, pB, pk) pa pb) rf) lt ln (nI (oScr (nr, nc, pL, pG, pB, pk) pa pb).1) u.1 u.2 fo sp wr td))) A) args s (⟨3, 0, 0, 69⟩ : Room).cells (⟨3, 0, 0, 69⟩ : Room).slots A = Q
  obtain ⟨hx, hb, hr, hts, hown, hlk, hml⟩ := C
  have hown : s.vm.findClass RX5 = some m.cls := hown
  have hS : va_S A s.heap s.heap [] := va_S.rf
  have hl : lv_has ls 8 [(0, .ref mh), (1, .int pa), (2, .int pb)] := hl
  have hmu := dm_mul hd
  refine lv_iload_n hx hb dX5_scrambles_0 rfl (lv_at hl 1 rfl) ?_
  refine lv_iconst (v := nI 0) hx hb dX5_scrambles_1 (by decide) ?_
  refine lv_sipush (v := nI 999) hx hb dX5_scrambles_2 (by decide) ?_
  refine callSi (As := [.int pa, .int (nI 0), .int (nI 999)]) (rest := []) (wc := ([] : va_W)) (wr := (MW G mh md nr nc pL pG pB pk bf hi sv ch hs inp ty er wy wd rf lt ln th tr mv fo sp wr td)) ⟨hx, hb, hml, hown, hts⟩ (m_X5_in l G pa (nI 0) (nI 999) ) (va_cwS 3 hts (lw_S q1810 q1811 q105 q1812) rfl rfl rfl (by decide +kernel) ⟨Nat.le_of_ble_eq_true rfl, Nat.le_of_ble_eq_true rfl⟩) hK hZ hA hP hD hS [] [0, 1, 2, 3, 4, 5, 6, 7, 8, 9] rfl rfl (by decide) (by decide) (by decide) rfl hl.1 (Nat.le_of_ble_eq_true rfl) ⟨Nat.le_of_ble_eq_true rfl, Nat.le_of_ble_eq_true rfl⟩ rfl dX5_scrambles_5 (fun r9 u9 H locs hw9 hP hD hS => ?_)
  subst hw9
  have hP : va_P G.1 CL (MW G mh md nr nc pL pG pB pk bf hi sv ch hs inp ty er wy wd rf lt ln th tr mv fo sp wr td) _ := hP
  have hD : va_D A (MW G mh md nr nc pL pG pB pk bf hi sv ch hs inp ty er wy wd rf lt ln th tr mv fo sp wr td) := hD
  refine b_if_eq (tgt := 21) hx hb dX5_scrambles_8 (by decide) (fun c8 => ?_) (fun c8 => ?_)
  · skip
    refine lv_aload_n hx hb dX5_scrambles_21 rfl (lv_at hl 0 rfl) ?_
    refine lv_iconst (v := nI 1) hx hb dX5_scrambles_22 (by decide) ?_
    refine callVi (As := [.int (nI 1)]) (rest := []) (wc := (MW G mh md nr nc pL pG pB pk bf hi sv ch hs inp ty er wy wd rf lt ln th tr mv fo sp wr td)) (wr := ([] : va_W)) ⟨hx, hb, hml, hown, hts⟩ (m_X5_fails l G mh md nr nc pL pG pB pk bf hi sv ch hs inp ty er wy wd rf lt ln th tr mv fo sp wr td (nI 1) ) (cwV 1 hts (lw_V q1813 q1815 qs37 q105 q1816) rfl rfl rfl (by decide +kernel) ⟨Nat.le_of_ble_eq_true rfl, Nat.le_of_ble_eq_true rfl⟩) hK hZ hA hP hD hS [0, 1, 2, 3, 4, 5, 6, 7, 8, 9] [] rfl rfl (by decide) (by decide) (by decide) 0 4 rfl rfl rfl hl.1 (Nat.le_of_ble_eq_true rfl) ⟨Nat.le_of_ble_eq_true rfl, Nat.le_of_ble_eq_true rfl⟩ rfl dX5_scrambles_23 (fun r9 u9 H locs hw9 hP hD hS => ?_)
    subst hw9
    have hP : va_P G.1 CL (MW G mh md nr nc pL pG pB pk bf hi sv ch hs inp ty er wy wd false lt ln (nI 1) tr mv fo sp wr td) _ := hP
    have hD : va_D A (MW G mh md nr nc pL pG pB pk bf hi sv ch hs inp ty er wy wd false lt ln (nI 1) tr mv fo sp wr td) := hD
    subst hQ
    rw [show oScr (nr, nc, pL, pG, pB, pk) pa pb = (1, (nr, nc, pL, pG, pB, pk), nI 0, none) from (if_neg (by intro z; rw [Bool.and_eq_true] at z; first | (rw [c8] at z; exact absurd z.1 (by decide)) | (rw [c18] at z; exact absurd z.2 (by decide))))]
    exact ret_i hx hb hr hlk (⟨tr, mv⟩) rfl hP hD hS rfl dX5_scrambles_26
  · skip
    refine lv_iload_n hx hb dX5_scrambles_11 rfl (lv_at hl 2 rfl) ?_
    refine lv_iconst (v := nI 1) hx hb dX5_scrambles_12 (by decide) ?_
    refine lv_bipush (v := nI 9) hx hb dX5_scrambles_13 (by decide) ?_
    refine callSi (As := [.int pb, .int (nI 1), .int (nI 9)]) (rest := []) (wc := ([] : va_W)) (wr := (MW G mh md nr nc pL pG pB pk bf hi sv ch hs inp ty er wy wd rf lt ln th tr mv fo sp wr td)) ⟨hx, hb, hml, hown, hts⟩ (m_X5_in l G pb (nI 1) (nI 9) ) (va_cwS 3 hts (lw_S q1810 q1811 q105 q1812) rfl rfl rfl (by decide +kernel) ⟨Nat.le_of_ble_eq_true rfl, Nat.le_of_ble_eq_true rfl⟩) hK hZ hA hP hD hS [] [0, 1, 2, 3, 4, 5, 6, 7, 8, 9] rfl rfl (by decide) (by decide) (by decide) rfl hl.1 (Nat.le_of_ble_eq_true rfl) ⟨Nat.le_of_ble_eq_true rfl, Nat.le_of_ble_eq_true rfl⟩ rfl dX5_scrambles_15 (fun r9 u9 H locs hw9 hP hD hS => ?_)
    subst hw9
    have hP : va_P G.1 CL (MW G mh md nr nc pL pG pB pk bf hi sv ch hs inp ty er wy wd rf lt ln th tr mv fo sp wr td) _ := hP
    have hD : va_D A (MW G mh md nr nc pL pG pB pk bf hi sv ch hs inp ty er wy wd rf lt ln th tr mv fo sp wr td) := hD
    refine b_if_ne (tgt := 27) hx hb dX5_scrambles_18 (by decide) (fun c18 => ?_) (fun c18 => ?_)
    · skip
      obtain ⟨ka, hka1, hka2, rfl⟩ := inR_nI c8 (by decide) (by decide)
      obtain ⟨kb, hkb1, hkb2, rfl⟩ := inR_nI c18 (by decide) (by decide)
      refine lv_iload_n hx hb dX5_scrambles_27 rfl (lv_at hl 1 rfl) ?_
      refine lv_istore_n (lv' := [(3, .int (nI ka)), (0, .ref mh), (1, .int (nI ka)), (2, .int (nI kb))]) hx hb dX5_scrambles_28 rfl hl (by decide) rfl (fun ls hl => ?_)
      refine lv_iconst (v := nI 0) hx hb dX5_scrambles_29 (by decide) ?_
      refine lv_istore (lv' := [(4, .int (nI 0)), (3, .int (nI ka)), (0, .ref mh), (1, .int (nI ka)), (2, .int (nI kb))]) hx hb dX5_scrambles_30 hl (by decide) rfl (fun ls hl => ?_)
      refine lv_iconst (v := nI 0) hx hb dX5_scrambles_32 (by decide) ?_
      refine lv_istore (lv' := [(5, .int (nI 0)), (4, .int (nI 0)), (3, .int (nI ka)), (0, .ref mh), (1, .int (nI ka)), (2, .int (nI kb))]) hx hb dX5_scrambles_33 hl (by decide) rfl (fun ls hl => ?_)
      have lp35 : ∀ (f : Nat) (k : Nat) (n : Nat) (Mx : Nat → Nat) (kx : Nat → Int32) (tr2 : Nat → Nat) (mv2 : Nat → Nat), kb - k < f → (k ≤ kb) → (n = scMN nr nc pB ka k) → (Mx = scLN nr nc pB ka pL k) → (kx = va_up pk 0 (pk 0 + nI n)) → ∀ (H : Heap) (locs : List Loc) (ls : Array Slot), va_P G.1 CL (MW G mh md nr nc Mx pG pB kx bf hi sv ch hs inp ty er wy wd rf lt ln th tr2 mv2 fo sp wr td) H → va_D A (MW G mh md nr nc Mx pG pB kx bf hi sv ch hs inp ty er wy wd rf lt ln th tr2 mv2 fo sp wr td) → va_S A s.heap H locs → lv_has ls 8 [(0, .ref mh), (1, .int (nI ka)), (2, .int (nI kb)), (3, .int (nI (sdN ka k))), (4, .int (nI n)), (5, .int (nI k))] → W p l e (⟨3, 0, 0, 69⟩ : Room) s m args below meth cd H locs 0 0 Q (F0 m 35 ls []) := by
        intro f
        induction f with
        | zero => intro k n Mx kx tr2 mv2 hf; exact absurd hf (Nat.not_lt_zero _)
        | succ f ih35 =>
          intro k n Mx kx tr2 mv2 hf hk hn hM hkx H locs ls hP hD hS hl
          refine lv_iload hx hb dX5_scrambles_35 (lv_at hl 5 rfl) ?_
          refine lv_iload_n hx hb dX5_scrambles_37 rfl (lv_at hl 2 rfl) ?_
          refine n_cmp_ge (tgt := 89) hx hb dX5_scrambles_38 (by decide) (by omega) (by omega) (fun c38 => ?_) (fun c38 => ?_)
          · skip
            refine lv_aload_n hx hb dX5_scrambles_89 rfl (lv_at hl 0 rfl) ?_
            refine va_get (D := G.1) (ci := 4) (v := .ref (md 0)) (C := RX5) (T := TX5) (N := 21) hx hb hts in_X5 hown hK hP 0 rfl rfl 0 (by decide) (hts _ q1727) (fun _ h9 => h9) rfl dX5_scrambles_90 ?_
            refine lv_iconst (v := nI 4) hx hb dX5_scrambles_93 (by decide) ?_
            refine lv_dup2_11 hx hb dX5_scrambles_94 rfl rfl ?_
            refine r_iald hx hb hK hP 1 3 rfl rfl (by omega) (by decide) dX5_scrambles_95 ?_
            refine eq_i (y := (kx 2)) rfl ?_
            refine lv_iconst (v := nI 1) hx hb dX5_scrambles_96 (by decide) ?_
            refine lv_iadd hx hb dX5_scrambles_97 ?_
            refine r_iast hx hb hK hP hD hS 1 3 rfl rfl (by omega) (by decide) dX5_scrambles_98 (fun H locs hP hD hS => ?_)
            rw [show va_up (gZ (nr, nc, Mx, pG, pB, kx)) 4 ((kx 2) + (nI 1)) = (gZ (nr, nc, Mx, pG, pB, (va_up kx 2 ((kx 2) + (nI 1))))) from (gZ_sk (j := 2) (by decide))] at hP hD
            have hP : va_P G.1 CL (MW G mh md nr nc Mx pG pB (va_up kx 2 ((kx 2) + (nI 1))) bf hi sv ch hs inp ty er wy wd rf lt ln th tr2 mv2 fo sp wr td) _ := hP
            have hD : va_D A (MW G mh md nr nc Mx pG pB (va_up kx 2 ((kx 2) + (nI 1))) bf hi sv ch hs inp ty er wy wd rf lt ln th tr2 mv2 fo sp wr td) := hD
            refine lv_aload_n hx hb dX5_scrambles_99 rfl (lv_at hl 0 rfl) ?_
            refine lv_iload hx hb dX5_scrambles_100 (lv_at hl 4 rfl) ?_
            refine callVi (As := [.int (nI n)]) (rest := []) (wc := (MW G mh md nr nc Mx pG pB (va_up kx 2 ((kx 2) + (nI 1))) bf hi sv ch hs inp ty er wy wd rf lt ln th tr2 mv2 fo sp wr td)) (wr := ([] : va_W)) ⟨hx, hb, hml, hown, hts⟩ (m_X5_done l G mh md nr nc Mx pG pB (va_up kx 2 ((kx 2) + (nI 1))) bf hi sv ch hs inp ty er wy wd rf lt ln th tr2 mv2 fo sp wr td (nI n) ) (cwV 1 hts (lw_V q1821 q1823 qs39 q105 q1824) rfl rfl rfl (by decide +kernel) ⟨Nat.le_of_ble_eq_true rfl, Nat.le_of_ble_eq_true rfl⟩) hK hZ hA hP hD hS [0, 1, 2, 3, 4, 5, 6, 7, 8, 9] [] rfl rfl (by decide) (by decide) (by decide) 0 4 rfl rfl rfl hl.1 (Nat.le_of_ble_eq_true rfl) ⟨Nat.le_of_ble_eq_true rfl, Nat.le_of_ble_eq_true rfl⟩ rfl dX5_scrambles_102 (fun r9 u9 H locs hw9 hP hD hS => ?_)
            subst hw9
            have hP : va_P G.1 CL (MW G mh md nr nc Mx pG pB (va_up kx 2 ((kx 2) + (nI 1))) bf hi sv ch hs inp ty er wy wd rf lt ln (nI 0) tr2 mv2 fo sp wr td) _ := hP
            have hD : va_D A (MW G mh md nr nc Mx pG pB (va_up kx 2 ((kx 2) + (nI 1))) bf hi sv ch hs inp ty er wy wd rf lt ln (nI 0) tr2 mv2 fo sp wr td) := hD
            subst hQ
            rw [show oScr (nr, nc, pL, pG, pB, pk) (nI ka) (nI kb) = (0, (nr, nc, Mx, pG, pB, (va_up kx 2 ((kx 2) + (nI 1)))), (nI n), none) from (by unfold oScr; rw [if_pos (by rw [c8, c18]; rfl), cl_n (by omega), cl_n (by omega), hkx, hM, hn, show k = kb by omega]; rfl)]
            exact ret_i hx hb hr hlk (⟨tr2, mv2⟩) rfl hP hD hS rfl dX5_scrambles_105
          · skip
            have hsk := sdN_lt (seed := ka) (by omega) k
            refine lv_bipush (v := nI 73) hx hb dX5_scrambles_41 (by decide) ?_
            refine lv_iload_n hx hb dX5_scrambles_43 rfl (lv_at hl 3 rfl) ?_
            refine n_imul hx hb dX5_scrambles_44 ?_
            refine lv_bipush (v := nI 41) hx hb dX5_scrambles_45 (by decide) ?_
            refine n_iadd hx hb dX5_scrambles_47 ?_
            refine lv_sipush (v := nI 1000) hx hb dX5_scrambles_48 (by decide) ?_
            refine n_irem hx hb (by omega) (by omega) (by omega) dX5_scrambles_51 ?_
            refine lv_istore_n (lv' := [(3, .int (nI (((73 * (sdN ka k)) + 41) % 1000))), (0, .ref mh), (1, .int (nI ka)), (2, .int (nI kb)), (4, .int (nI n)), (5, .int (nI k))]) hx hb dX5_scrambles_52 rfl hl (by decide) rfl (fun ls hl => ?_)
            refine lv_iload_n hx hb dX5_scrambles_53 rfl (lv_at hl 0 rfl) ?_
            refine lv_iconst (v := nI 2) hx hb dX5_scrambles_54 (by decide) ?_
            refine lv_aload_n hx hb dX5_scrambles_55 rfl (lv_at hl 1 rfl) ?_
            refine callVi (As := []) (rest := [.int (nI 2), .int (nI (((73 * (sdN ka k)) + 41) % 1000))]) (wc := (MW G mh md nr nc Mx pG pB kx bf hi sv ch hs inp ty er wy wd rf lt ln th tr2 mv2 fo sp wr td)) (wr := ([] : va_W)) ⟨hx, hb, hml, hown, hts⟩ (m_X5_lines l G mh md nr nc Mx pG pB kx bf hi sv ch hs inp ty er wy wd rf lt ln th tr2 mv2 fo sp wr td ) (cwV 0 hts (lw_V q1875 q1877 qs48 q105 q1878) rfl rfl rfl (by decide +kernel) ⟨Nat.le_of_ble_eq_true rfl, Nat.le_of_ble_eq_true rfl⟩) hK hZ hA hP hD hS [0, 1, 2, 3, 4, 5, 6, 7, 8, 9] [] rfl rfl (by decide) (by decide) (by decide) 0 4 rfl rfl rfl hl.1 (Nat.le_of_ble_eq_true rfl) ⟨Nat.le_of_ble_eq_true rfl, Nat.le_of_ble_eq_true rfl⟩ rfl dX5_scrambles_56 (fun r9 u9 H locs hw9 hP hD hS => ?_)
            subst hw9
            have hP : va_P G.1 CL (MW G mh md nr nc Mx pG pB kx bf hi sv ch hs inp ty er wy wd rf lt ln th tr2 mv2 fo sp wr td) _ := hP
            have hD : va_D A (MW G mh md nr nc Mx pG pB kx bf hi sv ch hs inp ty er wy wd rf lt ln th tr2 mv2 fo sp wr td) := hD
            refine n_imul hx hb dX5_scrambles_59 ?_
            refine n_irem hx hb (by omega) (by omega) (by omega) dX5_scrambles_60 ?_
            refine lv_istore (lv' := [(6, .int (nI ((((73 * (sdN ka k)) + 41) % 1000) % (2 * (nr + nc))))), (3, .int (nI (((73 * (sdN ka k)) + 41) % 1000))), (0, .ref mh), (1, .int (nI ka)), (2, .int (nI kb)), (4, .int (nI n)), (5, .int (nI k))]) hx hb dX5_scrambles_61 hl (by decide) rfl (fun ls hl => ?_)
            have hst : sctN nr nc ka k < 2 * (nr + nc) := Nat.mod_lt _ (by omega)
            refine lv_aload_n hx hb dX5_scrambles_63 rfl (lv_at hl 2 rfl) ?_
            refine lv_iload hx hb dX5_scrambles_64 (lv_at hl 0 rfl) ?_
            refine callVi (As := [.int (nI ((((73 * (sdN ka k)) + 41) % 1000) % (2 * (nr + nc))))]) (rest := []) (wc := (MW G mh md nr nc Mx pG pB kx bf hi sv ch hs inp ty er wy wd rf lt ln th tr2 mv2 fo sp wr td)) (wr := ([] : va_W)) ⟨hx, hb, hml, hown, hts⟩ (m_X5_isOpen l G mh md nr nc Mx pG pB kx bf hi sv ch hs inp ty er wy wd rf lt ln th tr2 mv2 fo sp wr td ((((73 * (sdN ka k)) + 41) % 1000) % (2 * (nr + nc))) (Nat.lt_of_lt_of_le hst (by omega))) (cwV 1 hts (lw_V q1879 q1881 qs49 q105 q1882) rfl rfl rfl (by decide +kernel) ⟨Nat.le_of_ble_eq_true rfl, Nat.le_of_ble_eq_true rfl⟩) hK hZ hA hP hD hS [0, 1, 2, 3, 4, 5, 6, 7, 8, 9] [] rfl rfl (by decide) (by decide) (by decide) 0 4 rfl rfl rfl hl.1 (Nat.le_of_ble_eq_true rfl) ⟨Nat.le_of_ble_eq_true rfl, Nat.le_of_ble_eq_true rfl⟩ rfl dX5_scrambles_66 (fun r9 u9 H locs hw9 hP hD hS => ?_)
            subst hw9
            have hP : va_P G.1 CL (MW G mh md nr nc Mx pG pB kx bf hi sv ch hs inp ty er wy wd rf lt ln th tr2 mv2 fo sp wr td) _ := hP
            have hD : va_D A (MW G mh md nr nc Mx pG pB kx bf hi sv ch hs inp ty er wy wd rf lt ln th tr2 mv2 fo sp wr td) := hD
            refine b_if_eq (tgt := 83) hx hb dX5_scrambles_69 (by decide) (fun c69 => ?_) (fun c69 => ?_)
            · skip
              refine lv_iinc (v := nI (k + 1)) (lv' := [(5, .int (nI (k + 1))), (6, .int (nI ((((73 * (sdN ka k)) + 41) % 1000) % (2 * (nr + nc))))), (3, .int (nI (((73 * (sdN ka k)) + 41) % 1000))), (0, .ref mh), (1, .int (nI ka)), (2, .int (nI kb)), (4, .int (nI n))]) hx hb dX5_scrambles_83 hl (k := 6) rfl (nI_add _ _) (by decide) rfl (fun ls hl => ?_)
              refine lv_goto (tgt := 35) hx hb dX5_scrambles_86 (by decide) ?_
              exact ih35 (k + 1) n Mx kx tr2 mv2 (by omega) (by omega) (by rw [hn]; exact (cn_f c69)) (by rw [hM]; exact (if_pos (by have c9 : (!pB (sctN nr nc ka k / 2)) = false := c69; simpa using c9)).symm) hkx _ _ _ hP hD hS (lv_sub hl [3, 4, 5, 2, 6, 0] rfl)
            · skip
              refine lv_aload_n hx hb dX5_scrambles_72 rfl (lv_at hl 2 rfl) ?_
              refine lv_iload hx hb dX5_scrambles_73 (lv_at hl 0 rfl) ?_
              refine callVi (As := [.int (nI ((((73 * (sdN ka k)) + 41) % 1000) % (2 * (nr + nc))))]) (rest := []) (wc := (MW G mh md nr nc Mx pG pB kx bf hi sv ch hs inp ty er wy wd rf lt ln th tr2 mv2 fo sp wr td)) (wr := ([] : va_W)) ⟨hx, hb, hml, hown, hts⟩ (m_X5_makes l G mh md nr nc Mx pG pB kx bf hi sv ch hs inp ty er wy wd rf lt ln th tr2 mv2 fo sp wr td ((((73 * (sdN ka k)) + 41) % 1000) % (2 * (nr + nc))) (by first | assumption | omega) hst (by rw [hM]; exact scLN_rg hd hLR _) (by first | assumption | omega)) (cwV 1 hts (lw_V q1899 q1901 qs54 q105 q1902) rfl rfl rfl (by decide +kernel) ⟨Nat.le_of_ble_eq_true rfl, Nat.le_of_ble_eq_true rfl⟩) hK hZ hA hP hD hS [0, 1, 2, 3, 4, 5, 6, 7, 8, 9] [] rfl rfl (by decide) (by decide) (by decide) 0 4 rfl rfl rfl hl.1 (Nat.le_of_ble_eq_true rfl) ⟨Nat.le_of_ble_eq_true rfl, Nat.le_of_ble_eq_true rfl⟩ rfl dX5_scrambles_75 (fun r9 u9 H locs hw9 hP hD hS => ?_)
              obtain ⟨tr1_7, mv1_7⟩ := u9
              obtain ⟨hr9, hw75⟩ := hw9
              subst hr9
              have hw75 : ∀ q, q < nr * nc → tr1_7 q = tn nr nc ((((73 * (sdN ka k)) + 41) % 1000) % (2 * (nr + nc))) Mx q - 97 := hw75
              have hP : va_P G.1 CL (MW G mh md nr nc (tn nr nc ((((73 * (sdN ka k)) + 41) % 1000) % (2 * (nr + nc))) Mx) pG pB (va_up kx 0 (kx 0 + 1)) bf hi sv ch hs inp ty er wy wd rf lt ln th tr1_7 mv1_7 fo sp wr td) _ := hP
              have hD : va_D A (MW G mh md nr nc (tn nr nc ((((73 * (sdN ka k)) + 41) % 1000) % (2 * (nr + nc))) Mx) pG pB (va_up kx 0 (kx 0 + 1)) bf hi sv ch hs inp ty er wy wd rf lt ln th tr1_7 mv1_7 fo sp wr td) := hD
              refine lv_istore (lv' := [(7, .int (nI (hm nr nc (tn nr nc ((((73 * (sdN ka k)) + 41) % 1000) % (2 * (nr + nc))) Mx) pG))), (6, .int (nI ((((73 * (sdN ka k)) + 41) % 1000) % (2 * (nr + nc))))), (3, .int (nI (((73 * (sdN ka k)) + 41) % 1000))), (0, .ref mh), (1, .int (nI ka)), (2, .int (nI kb)), (4, .int (nI n)), (5, .int (nI k))]) hx hb dX5_scrambles_78 hl (by decide) rfl (fun ls hl => ?_)
              refine lv_iinc (v := nI (n + 1)) (lv' := [(4, .int (nI (n + 1))), (7, .int (nI (hm nr nc (tn nr nc ((((73 * (sdN ka k)) + 41) % 1000) % (2 * (nr + nc))) Mx) pG))), (6, .int (nI ((((73 * (sdN ka k)) + 41) % 1000) % (2 * (nr + nc))))), (3, .int (nI (((73 * (sdN ka k)) + 41) % 1000))), (0, .ref mh), (1, .int (nI ka)), (2, .int (nI kb)), (5, .int (nI k))]) hx hb dX5_scrambles_80 hl (k := 6) rfl (nI_add _ _) (by decide) rfl (fun ls hl => ?_)
              refine lv_iinc (v := nI (k + 1)) (lv' := [(5, .int (nI (k + 1))), (4, .int (nI (n + 1))), (7, .int (nI (hm nr nc (tn nr nc ((((73 * (sdN ka k)) + 41) % 1000) % (2 * (nr + nc))) Mx) pG))), (6, .int (nI ((((73 * (sdN ka k)) + 41) % 1000) % (2 * (nr + nc))))), (3, .int (nI (((73 * (sdN ka k)) + 41) % 1000))), (0, .ref mh), (1, .int (nI ka)), (2, .int (nI kb))]) hx hb dX5_scrambles_83 hl (k := 7) rfl (nI_add _ _) (by decide) rfl (fun ls hl => ?_)
              refine lv_goto (tgt := 35) hx hb dX5_scrambles_86 (by decide) ?_
              exact ih35 (k + 1) (n + 1) (tn nr nc ((((73 * (sdN ka k)) + 41) % 1000) % (2 * (nr + nc))) Mx) (va_up kx 0 (kx 0 + 1)) tr1_7 mv1_7 (by omega) (by omega) (by rw [hn]; exact cn_t c69) (by rw [hM]; exact (if_neg (by have c9 : (!pB (sctN nr nc ka k / 2)) = true := c69; intro z; rw [z] at c9; exact absurd c9 (by decide))).symm) (by rw [hkx]; exact k_up) _ _ _ hP hD hS (lv_sub hl [5, 6, 7, 4, 1, 0] rfl)
      exact lp35 _ 0 0 pL pk tr mv (Nat.lt_succ_self _) (by omega) rfl rfl k_up0 _ _ _ hP hD hS (lv_sub hl [3, 4, 5, 2, 1, 0] rfl)
    · skip
      refine lv_aload_n hx hb dX5_scrambles_21 rfl (lv_at hl 0 rfl) ?_
      refine lv_iconst (v := nI 1) hx hb dX5_scrambles_22 (by decide) ?_
      refine callVi (As := [.int (nI 1)]) (rest := []) (wc := (MW G mh md nr nc pL pG pB pk bf hi sv ch hs inp ty er wy wd rf lt ln th tr mv fo sp wr td)) (wr := ([] : va_W)) ⟨hx, hb, hml, hown, hts⟩ (m_X5_fails l G mh md nr nc pL pG pB pk bf hi sv ch hs inp ty er wy wd rf lt ln th tr mv fo sp wr td (nI 1) ) (cwV 1 hts (lw_V q1813 q1815 qs37 q105 q1816) rfl rfl rfl (by decide +kernel) ⟨Nat.le_of_ble_eq_true rfl, Nat.le_of_ble_eq_true rfl⟩) hK hZ hA hP hD hS [0, 1, 2, 3, 4, 5, 6, 7, 8, 9] [] rfl rfl (by decide) (by decide) (by decide) 0 4 rfl rfl rfl hl.1 (Nat.le_of_ble_eq_true rfl) ⟨Nat.le_of_ble_eq_true rfl, Nat.le_of_ble_eq_true rfl⟩ rfl dX5_scrambles_23 (fun r9 u9 H locs hw9 hP hD hS => ?_)
      subst hw9
      have hP : va_P G.1 CL (MW G mh md nr nc pL pG pB pk bf hi sv ch hs inp ty er wy wd false lt ln (nI 1) tr mv fo sp wr td) _ := hP
      have hD : va_D A (MW G mh md nr nc pL pG pB pk bf hi sv ch hs inp ty er wy wd false lt ln (nI 1) tr mv fo sp wr td) := hD
      subst hQ
      rw [show oScr (nr, nc, pL, pG, pB, pk) pa pb = (1, (nr, nc, pL, pG, pB, pk), nI 0, none) from (if_neg (by intro z; rw [Bool.and_eq_true] at z; first | (rw [c8] at z; exact absurd z.1 (by decide)) | (rw [c18] at z; exact absurd z.2 (by decide))))]
      exact ret_i hx hb hr hlk (⟨tr, mv⟩) rfl hP hD hS rfl dX5_scrambles_26
set_option maxHeartbeats 4000000 in
set_option maxRecDepth 100000 in
theorem m_X5_board (l : Launch) (G : GG) (mh : Nat) (md : Nat → Nat) (nr : Nat) (nc : Nat) (pL : Nat → Nat) (pG : Nat → Nat) (pB : Nat → Bool) (pk : Nat → Int32) (bf : Nat → Int32) (hi : Nat → Int32) (sv : Nat → Int32) (ch : Nat) (hs : Bool) (inp : Nat → Nat) (ty : Nat) (er : Int32) (wy : Int32) (wd : Int32) (rf : Bool) (lt : Nat → Nat) (ln : Nat) (th : Int32) (tr : Nat → Nat) (mv : Nat → Nat) (fo : Int32) (sp : Nat) (wr : Bool) (td : Nat → Int32) (ba : Int32) (bb : Int32) (zl : List ZT) (hd : 2 ≤ nr ∧ nr ≤ 3 ∧ 2 ≤ nc ∧ nc ≤ 3) (hH : HistA hi zl ch) : MM l G yX5_board cX5_board 3 (some .int) ⟨2, 0, 0, 46⟩ [.ref mh, .int ba, .int bb] (MW G mh md nr nc pL pG pB pk bf hi sv ch hs inp ty er wy wd rf lt ln th tr mv fo sp wr td) (Qi_ G (fun (r : Int32) (u : (Nat → Int32) × (Nat)) => (r = (oBoard (fun _ => 97) (nr, nc, pL, pG, pB, pk) ba bb).2.2.1) ∧ (HistA u.1 (oH (oBoard (fun _ => 97) (nr, nc, pL, pG, pB, pk) ba bb) zl (nr, nc, pL, pG, pB, pk)) u.2)) (fun (u : (Nat → Int32) × (Nat)) => (MW G mh md ((oBoard (fun _ => 97) (nr, nc, pL, pG, pB, pk) ba bb).2.1.1) ((oBoard (fun _ => 97) (nr, nc, pL, pG, pB, pk) ba bb).2.1.2.1) ((oBoard (fun _ => 97) (nr, nc, pL, pG, pB, pk) ba bb).2.1.2.2.1) ((oBoard (fun _ => 97) (nr, nc, pL, pG, pB, pk) ba bb).2.1.2.2.2.1) ((oBoard (fun _ => 97) (nr, nc, pL, pG, pB, pk) ba bb).2.1.2.2.2.2.1) ((oBoard (fun _ => 97) (nr, nc, pL, pG, pB, pk) ba bb).2.1.2.2.2.2.2) (gZ (nr, nc, pL, pG, pB, pk)) u.1 sv u.2 hs inp ty er (oWy (oBoard (fun _ => 97) (nr, nc, pL, pG, pB, pk) ba bb) wy) (oWd (oBoard (fun _ => 97) (nr, nc, pL, pG, pB, pk) ba bb) wd) (oRf (oBoard (fun _ => 97) (nr, nc, pL, pG, pB, pk) ba bb) rf) lt ln (nI (oBoard (fun _ => 97) (nr, nc, pL, pG, pB, pk) ba bb).1) tr mv fo sp wr td))) := by
  refine MM.of (by decide) (Nat.le_of_ble_eq_true rfl) ?_
  intro p e s m args below meth cd A C hini hA hK hZ hP hD ls hl
  generalize hQ : MQ below ((Qi_ G (fun (r : Int32) (u : (Nat → Int32) × (Nat)) => (r = (oBoard (fun _ => 97) (nr, nc, pL, pG, pB, pk) ba bb).2.2.1) ∧ (HistA u.1 (oH (oBoard (fun _ => 97) (nr, nc, pL, pG, pB, pk) ba bb) zl (nr, nc, pL, pG, pB, pk)) u.2)) (fun (u : (Nat → Int32) × (Nat)) => (MW G mh md ((oBoard (fun _ => 97) (nr, nc, pL, pG, pB, pk) ba bb).2.1.1) ((oBoard (fun _ => 97) (nr, nc, pL, pG, pB, pk) ba bb).2.1.2.1) ((oBoard (fun _ => 97) (nr, nc, pL, pG, pB, pk) ba bb).2.1.2.2.1) ((oBoard (fun _ => 97) (nr, nc, pL, pG, pB, pk) ba bb).2.1.2.2.2.1) ((oBoard (fun _ => 97) (nr, nc, pL, pG, pB, pk) ba bb).2.1.2.2.2.2.1) ((oBoard (fun _ => 97) (nr, nc, pL, pG, pB, pk) ba bb).2.1.2.2.2.2.2) (gZ (nr, nc, pL, pG, pB, pk)) u.1 sv u.2 hs inp ty er (oWy (oBoard (fun _ => 97) (nr, nc, pL, pG, pB, pk) ba bb) wy) (oWd (oBoard (fun _ => 97) (nr, nc, pL, pG, pB, pk) ba bb) wd) (oRf (oBoard (fun _ => 97) (nr, nc, pL, pG, pB, pk) ba bb) rf) lt ln (nI (oBoard (fun _ => 97) (nr, nc, pL, pG, pB, pk) ba bb).1) tr mv fo sp wr td))) A) args s (⟨2, 0, 0, 46⟩ : Room).cells (⟨2, 0, 0, 46⟩ : Room).slots A = Q
  obtain ⟨hx, hb, hr, hts, hown, hlk, hml⟩ := C
  have hown : s.vm.findClass RX5 = some m.cls := hown
  have hS : va_S A s.heap s.heap [] := va_S.rf
  have hl : lv_has ls 3 [(0, .ref mh), (1, .int ba), (2, .int bb)] := hl
  have hmu := dm_mul hd
  refine lv_aload_n hx hb dX5_board_0 rfl (lv_at hl 0 rfl) ?_
  refine callVv (As := []) (rest := []) (wc := (MW G mh md nr nc pL pG pB pk bf hi sv ch hs inp ty er wy wd rf lt ln th tr mv fo sp wr td)) (wr := ([] : va_W)) ⟨hx, hb, hml, hown, hts⟩ (m_X5_looksBack l G mh md nr nc pL pG pB pk bf hi sv ch hs inp ty er wy wd rf lt ln th tr mv fo sp wr td ) (cwV 0 hts (lw_V q1799 q1801 qs35 q105 q1802) rfl rfl rfl (by decide +kernel) ⟨Nat.le_of_ble_eq_true rfl, Nat.le_of_ble_eq_true rfl⟩) hK hZ hA hP hD hS [0, 1, 2, 3, 4, 5, 6, 7, 8, 9] [] rfl rfl (by decide) (by decide) (by decide) 0 4 rfl rfl rfl hl.1 (Nat.le_of_ble_eq_true rfl) ⟨Nat.le_of_ble_eq_true rfl, Nat.le_of_ble_eq_true rfl⟩ rfl dX5_board_1 (fun u9 H locs hw9 hP hD hS => ?_)
  have hP : va_P G.1 CL (MW G mh md nr nc pL pG pB pk (gZ (nr, nc, pL, pG, pB, pk)) hi sv ch hs inp ty er wy wd rf lt ln th tr mv fo sp wr td) _ := hP
  have hD : va_D A (MW G mh md nr nc pL pG pB pk (gZ (nr, nc, pL, pG, pB, pk)) hi sv ch hs inp ty er wy wd rf lt ln th tr mv fo sp wr td) := hD
  refine lv_aload_n hx hb dX5_board_4 rfl (lv_at hl 0 rfl) ?_
  refine lv_aload_n hx hb dX5_board_5 rfl (lv_at hl 0 rfl) ?_
  refine lv_iload_n hx hb dX5_board_6 rfl (lv_at hl 1 rfl) ?_
  refine lv_iload_n hx hb dX5_board_7 rfl (lv_at hl 2 rfl) ?_
  refine callVi (As := [.int ba, .int bb]) (rest := [.ref mh]) (wc := (MW G mh md nr nc pL pG pB pk (gZ (nr, nc, pL, pG, pB, pk)) hi sv ch hs inp ty er wy wd rf lt ln th tr mv fo sp wr td)) (wr := ([] : va_W)) ⟨hx, hb, hml, hown, hts⟩ (m_X5_boards l G mh md nr nc pL pG pB pk (gZ (nr, nc, pL, pG, pB, pk)) hi sv ch hs inp ty er wy wd rf lt ln th tr mv fo sp wr td ba bb (by first | assumption | omega)) (cwV 2 hts (lw_V q1806 q1808 qs36 q105 q1809) rfl rfl rfl (by decide +kernel) ⟨Nat.le_of_ble_eq_true rfl, Nat.le_of_ble_eq_true rfl⟩) hK hZ hA hP hD hS [0, 1, 2, 3, 4, 5, 6, 7, 8, 9] [] rfl rfl (by decide) (by decide) (by decide) 0 4 rfl rfl rfl hl.1 (Nat.le_of_ble_eq_true rfl) ⟨Nat.le_of_ble_eq_true rfl, Nat.le_of_ble_eq_true rfl⟩ rfl dX5_board_8 (fun r9 u9 H locs hw9 hP hD hS => ?_)
  subst hw9
  have hP : va_P G.1 CL (MW G mh md ((oBoard (fun _ => 97) (nr, nc, pL, pG, pB, pk) ba bb).2.1.1) ((oBoard (fun _ => 97) (nr, nc, pL, pG, pB, pk) ba bb).2.1.2.1) ((oBoard (fun _ => 97) (nr, nc, pL, pG, pB, pk) ba bb).2.1.2.2.1) ((oBoard (fun _ => 97) (nr, nc, pL, pG, pB, pk) ba bb).2.1.2.2.2.1) ((oBoard (fun _ => 97) (nr, nc, pL, pG, pB, pk) ba bb).2.1.2.2.2.2.1) ((oBoard (fun _ => 97) (nr, nc, pL, pG, pB, pk) ba bb).2.1.2.2.2.2.2) (gZ (nr, nc, pL, pG, pB, pk)) hi sv ch hs inp ty er (oWy (oBoard (fun _ => 97) (nr, nc, pL, pG, pB, pk) ba bb) wy) (oWd (oBoard (fun _ => 97) (nr, nc, pL, pG, pB, pk) ba bb) wd) (oRf (oBoard (fun _ => 97) (nr, nc, pL, pG, pB, pk) ba bb) rf) lt ln (nI (oBoard (fun _ => 97) (nr, nc, pL, pG, pB, pk) ba bb).1) tr mv fo sp wr td) _ := hP
  have hD : va_D A (MW G mh md ((oBoard (fun _ => 97) (nr, nc, pL, pG, pB, pk) ba bb).2.1.1) ((oBoard (fun _ => 97) (nr, nc, pL, pG, pB, pk) ba bb).2.1.2.1) ((oBoard (fun _ => 97) (nr, nc, pL, pG, pB, pk) ba bb).2.1.2.2.1) ((oBoard (fun _ => 97) (nr, nc, pL, pG, pB, pk) ba bb).2.1.2.2.2.1) ((oBoard (fun _ => 97) (nr, nc, pL, pG, pB, pk) ba bb).2.1.2.2.2.2.1) ((oBoard (fun _ => 97) (nr, nc, pL, pG, pB, pk) ba bb).2.1.2.2.2.2.2) (gZ (nr, nc, pL, pG, pB, pk)) hi sv ch hs inp ty er (oWy (oBoard (fun _ => 97) (nr, nc, pL, pG, pB, pk) ba bb) wy) (oWd (oBoard (fun _ => 97) (nr, nc, pL, pG, pB, pk) ba bb) wd) (oRf (oBoard (fun _ => 97) (nr, nc, pL, pG, pB, pk) ba bb) rf) lt ln (nI (oBoard (fun _ => 97) (nr, nc, pL, pG, pB, pk) ba bb).1) tr mv fo sp wr td) := hD
  by_cases hk9 : (oBoard (fun _ => 97) (nr, nc, pL, pG, pB, pk) ba bb).1 = 0
  · skip
    refine callVi (As := [.int ((oBoard (fun _ => 97) (nr, nc, pL, pG, pB, pk) ba bb).2.2.1)]) (rest := []) (wc := (MW G mh md ((oBoard (fun _ => 97) (nr, nc, pL, pG, pB, pk) ba bb).2.1.1) ((oBoard (fun _ => 97) (nr, nc, pL, pG, pB, pk) ba bb).2.1.2.1) ((oBoard (fun _ => 97) (nr, nc, pL, pG, pB, pk) ba bb).2.1.2.2.1) ((oBoard (fun _ => 97) (nr, nc, pL, pG, pB, pk) ba bb).2.1.2.2.2.1) ((oBoard (fun _ => 97) (nr, nc, pL, pG, pB, pk) ba bb).2.1.2.2.2.2.1) ((oBoard (fun _ => 97) (nr, nc, pL, pG, pB, pk) ba bb).2.1.2.2.2.2.2) (gZ (nr, nc, pL, pG, pB, pk)) hi sv ch hs inp ty er (oWy (oBoard (fun _ => 97) (nr, nc, pL, pG, pB, pk) ba bb) wy) (oWd (oBoard (fun _ => 97) (nr, nc, pL, pG, pB, pk) ba bb) wd) (oRf (oBoard (fun _ => 97) (nr, nc, pL, pG, pB, pk) ba bb) rf) lt ln (nI (oBoard (fun _ => 97) (nr, nc, pL, pG, pB, pk) ba bb).1) tr mv fo sp wr td)) (wr := ([] : va_W)) ⟨hx, hb, hml, hown, hts⟩ (m_X5_kept__0 l G mh md ((oBoard (fun _ => 97) (nr, nc, pL, pG, pB, pk) ba bb).2.1.1) ((oBoard (fun _ => 97) (nr, nc, pL, pG, pB, pk) ba bb).2.1.2.1) ((oBoard (fun _ => 97) (nr, nc, pL, pG, pB, pk) ba bb).2.1.2.2.1) ((oBoard (fun _ => 97) (nr, nc, pL, pG, pB, pk) ba bb).2.1.2.2.2.1) ((oBoard (fun _ => 97) (nr, nc, pL, pG, pB, pk) ba bb).2.1.2.2.2.2.1) ((oBoard (fun _ => 97) (nr, nc, pL, pG, pB, pk) ba bb).2.1.2.2.2.2.2) hi sv ch hs inp ty er (oWy (oBoard (fun _ => 97) (nr, nc, pL, pG, pB, pk) ba bb) wy) (oWd (oBoard (fun _ => 97) (nr, nc, pL, pG, pB, pk) ba bb) wd) (oRf (oBoard (fun _ => 97) (nr, nc, pL, pG, pB, pk) ba bb) rf) lt ln (nI (oBoard (fun _ => 97) (nr, nc, pL, pG, pB, pk) ba bb).1) tr mv fo sp wr td ((oBoard (fun _ => 97) (nr, nc, pL, pG, pB, pk) ba bb).2.2.1) (nr, nc, pL, pG, pB, pk) zl (by rw [hk9]; exact nI_0) hH) (cwV 1 hts (lw_V q1825 q1827 qs40 q105 q1828) rfl rfl rfl (by decide +kernel) ⟨Nat.le_of_ble_eq_true rfl, Nat.le_of_ble_eq_true rfl⟩) hK hZ hA hP hD hS [0, 1, 2, 3, 4, 5, 6, 7, 8, 9] [] rfl rfl (by decide) (by decide) (by decide) 0 4 rfl rfl rfl hl.1 (Nat.le_of_ble_eq_true rfl) ⟨Nat.le_of_ble_eq_true rfl, Nat.le_of_ble_eq_true rfl⟩ rfl dX5_board_11 (fun r9 u9 H locs hw9 hP hD hS => ?_)
    obtain ⟨hi1_3, ch1_3⟩ := u9
    obtain ⟨hr9, hw11⟩ := hw9
    subst hr9
    have hw11 : HistA hi1_3 (pushH zl (nr, nc, pL, pG, pB, pk)) ch1_3 := hw11
    have hP : va_P G.1 CL (MW G mh md ((oBoard (fun _ => 97) (nr, nc, pL, pG, pB, pk) ba bb).2.1.1) ((oBoard (fun _ => 97) (nr, nc, pL, pG, pB, pk) ba bb).2.1.2.1) ((oBoard (fun _ => 97) (nr, nc, pL, pG, pB, pk) ba bb).2.1.2.2.1) ((oBoard (fun _ => 97) (nr, nc, pL, pG, pB, pk) ba bb).2.1.2.2.2.1) ((oBoard (fun _ => 97) (nr, nc, pL, pG, pB, pk) ba bb).2.1.2.2.2.2.1) ((oBoard (fun _ => 97) (nr, nc, pL, pG, pB, pk) ba bb).2.1.2.2.2.2.2) (gZ (nr, nc, pL, pG, pB, pk)) hi1_3 sv ch1_3 hs inp ty er (oWy (oBoard (fun _ => 97) (nr, nc, pL, pG, pB, pk) ba bb) wy) (oWd (oBoard (fun _ => 97) (nr, nc, pL, pG, pB, pk) ba bb) wd) (oRf (oBoard (fun _ => 97) (nr, nc, pL, pG, pB, pk) ba bb) rf) lt ln (nI (oBoard (fun _ => 97) (nr, nc, pL, pG, pB, pk) ba bb).1) tr mv fo sp wr td) _ := hP
    have hD : va_D A (MW G mh md ((oBoard (fun _ => 97) (nr, nc, pL, pG, pB, pk) ba bb).2.1.1) ((oBoard (fun _ => 97) (nr, nc, pL, pG, pB, pk) ba bb).2.1.2.1) ((oBoard (fun _ => 97) (nr, nc, pL, pG, pB, pk) ba bb).2.1.2.2.1) ((oBoard (fun _ => 97) (nr, nc, pL, pG, pB, pk) ba bb).2.1.2.2.2.1) ((oBoard (fun _ => 97) (nr, nc, pL, pG, pB, pk) ba bb).2.1.2.2.2.2.1) ((oBoard (fun _ => 97) (nr, nc, pL, pG, pB, pk) ba bb).2.1.2.2.2.2.2) (gZ (nr, nc, pL, pG, pB, pk)) hi1_3 sv ch1_3 hs inp ty er (oWy (oBoard (fun _ => 97) (nr, nc, pL, pG, pB, pk) ba bb) wy) (oWd (oBoard (fun _ => 97) (nr, nc, pL, pG, pB, pk) ba bb) wd) (oRf (oBoard (fun _ => 97) (nr, nc, pL, pG, pB, pk) ba bb) rf) lt ln (nI (oBoard (fun _ => 97) (nr, nc, pL, pG, pB, pk) ba bb).1) tr mv fo sp wr td) := hD
    subst hQ
    exact ret_i hx hb hr hlk (⟨hi1_3, ch1_3⟩) ⟨rfl, (by rw [oH, if_pos hk9]; exact hw11)⟩ hP hD hS rfl dX5_board_14
  · skip
    refine callVi (As := [.int ((oBoard (fun _ => 97) (nr, nc, pL, pG, pB, pk) ba bb).2.2.1)]) (rest := []) (wc := (MW G mh md ((oBoard (fun _ => 97) (nr, nc, pL, pG, pB, pk) ba bb).2.1.1) ((oBoard (fun _ => 97) (nr, nc, pL, pG, pB, pk) ba bb).2.1.2.1) ((oBoard (fun _ => 97) (nr, nc, pL, pG, pB, pk) ba bb).2.1.2.2.1) ((oBoard (fun _ => 97) (nr, nc, pL, pG, pB, pk) ba bb).2.1.2.2.2.1) ((oBoard (fun _ => 97) (nr, nc, pL, pG, pB, pk) ba bb).2.1.2.2.2.2.1) ((oBoard (fun _ => 97) (nr, nc, pL, pG, pB, pk) ba bb).2.1.2.2.2.2.2) (gZ (nr, nc, pL, pG, pB, pk)) hi sv ch hs inp ty er (oWy (oBoard (fun _ => 97) (nr, nc, pL, pG, pB, pk) ba bb) wy) (oWd (oBoard (fun _ => 97) (nr, nc, pL, pG, pB, pk) ba bb) wd) (oRf (oBoard (fun _ => 97) (nr, nc, pL, pG, pB, pk) ba bb) rf) lt ln (nI (oBoard (fun _ => 97) (nr, nc, pL, pG, pB, pk) ba bb).1) tr mv fo sp wr td)) (wr := ([] : va_W)) ⟨hx, hb, hml, hown, hts⟩ (m_X5_kept__t l G mh md ((oBoard (fun _ => 97) (nr, nc, pL, pG, pB, pk) ba bb).2.1.1) ((oBoard (fun _ => 97) (nr, nc, pL, pG, pB, pk) ba bb).2.1.2.1) ((oBoard (fun _ => 97) (nr, nc, pL, pG, pB, pk) ba bb).2.1.2.2.1) ((oBoard (fun _ => 97) (nr, nc, pL, pG, pB, pk) ba bb).2.1.2.2.2.1) ((oBoard (fun _ => 97) (nr, nc, pL, pG, pB, pk) ba bb).2.1.2.2.2.2.1) ((oBoard (fun _ => 97) (nr, nc, pL, pG, pB, pk) ba bb).2.1.2.2.2.2.2) hi sv ch hs inp ty er (oWy (oBoard (fun _ => 97) (nr, nc, pL, pG, pB, pk) ba bb) wy) (oWd (oBoard (fun _ => 97) (nr, nc, pL, pG, pB, pk) ba bb) wd) (oRf (oBoard (fun _ => 97) (nr, nc, pL, pG, pB, pk) ba bb) rf) lt ln (nI (oBoard (fun _ => 97) (nr, nc, pL, pG, pB, pk) ba bb).1) tr mv fo sp wr td ((oBoard (fun _ => 97) (nr, nc, pL, pG, pB, pk) ba bb).2.2.1) (nr, nc, pL, pG, pB, pk) ((ok_board (fun _ => 97) (nr, nc, pL, pG, pB, pk) ba bb).th hk9)) (cwV 1 hts (lw_V q1825 q1827 qs40 q105 q1828) rfl rfl rfl (by decide +kernel) ⟨Nat.le_of_ble_eq_true rfl, Nat.le_of_ble_eq_true rfl⟩) hK hZ hA hP hD hS [0, 1, 2, 3, 4, 5, 6, 7, 8, 9] [] rfl rfl (by decide) (by decide) (by decide) 0 4 rfl rfl rfl hl.1 (Nat.le_of_ble_eq_true rfl) ⟨Nat.le_of_ble_eq_true rfl, Nat.le_of_ble_eq_true rfl⟩ rfl dX5_board_11 (fun r9 u9 H locs hw9 hP hD hS => ?_)
    subst hw9
    have hP : va_P G.1 CL (MW G mh md ((nr, nc, pL, pG, pB, pk).1) ((nr, nc, pL, pG, pB, pk).2.1) ((nr, nc, pL, pG, pB, pk).2.2.1) ((nr, nc, pL, pG, pB, pk).2.2.2.1) ((nr, nc, pL, pG, pB, pk).2.2.2.2.1) ((nr, nc, pL, pG, pB, pk).2.2.2.2.2) (gZ (nr, nc, pL, pG, pB, pk)) hi sv ch hs inp ty er (oWy (oBoard (fun _ => 97) (nr, nc, pL, pG, pB, pk) ba bb) wy) (oWd (oBoard (fun _ => 97) (nr, nc, pL, pG, pB, pk) ba bb) wd) (oRf (oBoard (fun _ => 97) (nr, nc, pL, pG, pB, pk) ba bb) rf) lt ln (nI (oBoard (fun _ => 97) (nr, nc, pL, pG, pB, pk) ba bb).1) tr mv fo sp wr td) _ := hP
    have hD : va_D A (MW G mh md ((nr, nc, pL, pG, pB, pk).1) ((nr, nc, pL, pG, pB, pk).2.1) ((nr, nc, pL, pG, pB, pk).2.2.1) ((nr, nc, pL, pG, pB, pk).2.2.2.1) ((nr, nc, pL, pG, pB, pk).2.2.2.2.1) ((nr, nc, pL, pG, pB, pk).2.2.2.2.2) (gZ (nr, nc, pL, pG, pB, pk)) hi sv ch hs inp ty er (oWy (oBoard (fun _ => 97) (nr, nc, pL, pG, pB, pk) ba bb) wy) (oWd (oBoard (fun _ => 97) (nr, nc, pL, pG, pB, pk) ba bb) wd) (oRf (oBoard (fun _ => 97) (nr, nc, pL, pG, pB, pk) ba bb) rf) lt ln (nI (oBoard (fun _ => 97) (nr, nc, pL, pG, pB, pk) ba bb).1) tr mv fo sp wr td) := hD
    have hP : va_P G.1 CL (MW G mh md nr nc pL pG pB pk (gZ (nr, nc, pL, pG, pB, pk)) hi sv ch hs inp ty er (oWy (oBoard (fun _ => 97) (nr, nc, pL, pG, pB, pk) ba bb) wy) (oWd (oBoard (fun _ => 97) (nr, nc, pL, pG, pB, pk) ba bb) wd) (oRf (oBoard (fun _ => 97) (nr, nc, pL, pG, pB, pk) ba bb) rf) lt ln (nI (oBoard (fun _ => 97) (nr, nc, pL, pG, pB, pk) ba bb).1) tr mv fo sp wr td) _ := hP
    have hD : va_D A (MW G mh md nr nc pL pG pB pk (gZ (nr, nc, pL, pG, pB, pk)) hi sv ch hs inp ty er (oWy (oBoard (fun _ => 97) (nr, nc, pL, pG, pB, pk) ba bb) wy) (oWd (oBoard (fun _ => 97) (nr, nc, pL, pG, pB, pk) ba bb) wd) (oRf (oBoard (fun _ => 97) (nr, nc, pL, pG, pB, pk) ba bb) rf) lt ln (nI (oBoard (fun _ => 97) (nr, nc, pL, pG, pB, pk) ba bb).1) tr mv fo sp wr td) := hD
    have hz9 := ((ok_board (fun _ => 97) (nr, nc, pL, pG, pB, pk) ba bb)).2.1 hk9
    subst hQ
    rw [hz9.1]
    exact ret_i hx hb hr hlk (⟨hi, ch⟩) ⟨hz9.2.symm, (by rw [oH, if_neg hk9]; exact hH)⟩ hP hD hS rfl dX5_board_14
set_option maxHeartbeats 4000000 in
set_option maxRecDepth 100000 in
theorem m_X5_put (l : Launch) (G : GG) (mh : Nat) (md : Nat → Nat) (nr : Nat) (nc : Nat) (pL : Nat → Nat) (pG : Nat → Nat) (pB : Nat → Bool) (pk : Nat → Int32) (bf : Nat → Int32) (hi : Nat → Int32) (sv : Nat → Int32) (ch : Nat) (hs : Bool) (inp : Nat → Nat) (ty : Nat) (er : Int32) (wy : Int32) (wd : Int32) (rf : Bool) (lt : Nat → Nat) (ln : Nat) (th : Int32) (tr : Nat → Nat) (mv : Nat → Nat) (fo : Int32) (sp : Nat) (wr : Bool) (td : Nat → Int32) (ba : Int32) (bb : Int32) (zl : List ZT) (hd : 2 ≤ nr ∧ nr ≤ 3 ∧ 2 ≤ nc ∧ nc ≤ 3) (hLR : ∀ q, q < nr * nc → 97 ≤ pL q ∧ pL q ≤ 108) (hH : HistA hi zl ch) : MM l G yX5_put cX5_put 3 (some .char) ⟨3, 0, 0, 69⟩ [.ref mh, .int ba, .int bb] (MW G mh md nr nc pL pG pB pk bf hi sv ch hs inp ty er wy wd rf lt ln th tr mv fo sp wr td) (Qi_ G (fun (r : Int32) (u : (Nat → Int32) × (Nat)) => (r = (oPut (nr, nc, pL, pG, pB, pk) ba bb).2.2.1) ∧ (HistA u.1 (oH (oPut (nr, nc, pL, pG, pB, pk) ba bb) zl (nr, nc, pL, pG, pB, pk)) u.2)) (fun (u : (Nat → Int32) × (Nat)) => (MW G mh md ((oPut (nr, nc, pL, pG, pB, pk) ba bb).2.1.1) ((oPut (nr, nc, pL, pG, pB, pk) ba bb).2.1.2.1) ((oPut (nr, nc, pL, pG, pB, pk) ba bb).2.1.2.2.1) ((oPut (nr, nc, pL, pG, pB, pk) ba bb).2.1.2.2.2.1) ((oPut (nr, nc, pL, pG, pB, pk) ba bb).2.1.2.2.2.2.1) ((oPut (nr, nc, pL, pG, pB, pk) ba bb).2.1.2.2.2.2.2) (gZ (nr, nc, pL, pG, pB, pk)) u.1 sv u.2 hs inp ty er (oWy (oPut (nr, nc, pL, pG, pB, pk) ba bb) wy) (oWd (oPut (nr, nc, pL, pG, pB, pk) ba bb) wd) (oRf (oPut (nr, nc, pL, pG, pB, pk) ba bb) rf) lt ln (nI (oPut (nr, nc, pL, pG, pB, pk) ba bb).1) tr mv fo sp wr td))) := by
  refine MM.of (by decide) (Nat.le_of_ble_eq_true rfl) ?_
  intro p e s m args below meth cd A C hini hA hK hZ hP hD ls hl
  generalize hQ : MQ below ((Qi_ G (fun (r : Int32) (u : (Nat → Int32) × (Nat)) => (r = (oPut (nr, nc, pL, pG, pB, pk) ba bb).2.2.1) ∧ (HistA u.1 (oH (oPut (nr, nc, pL, pG, pB, pk) ba bb) zl (nr, nc, pL, pG, pB, pk)) u.2)) (fun (u : (Nat → Int32) × (Nat)) => (MW G mh md ((oPut (nr, nc, pL, pG, pB, pk) ba bb).2.1.1) ((oPut (nr, nc, pL, pG, pB, pk) ba bb).2.1.2.1) ((oPut (nr, nc, pL, pG, pB, pk) ba bb).2.1.2.2.1) ((oPut (nr, nc, pL, pG, pB, pk) ba bb).2.1.2.2.2.1) ((oPut (nr, nc, pL, pG, pB, pk) ba bb).2.1.2.2.2.2.1) ((oPut (nr, nc, pL, pG, pB, pk) ba bb).2.1.2.2.2.2.2) (gZ (nr, nc, pL, pG, pB, pk)) u.1 sv u.2 hs inp ty er (oWy (oPut (nr, nc, pL, pG, pB, pk) ba bb) wy) (oWd (oPut (nr, nc, pL, pG, pB, pk) ba bb) wd) (oRf (oPut (nr, nc, pL, pG, pB, pk) ba bb) rf) lt ln (nI (oPut (nr, nc, pL, pG, pB, pk) ba bb).1) tr mv fo sp wr td))) A) args s (⟨3, 0, 0, 69⟩ : Room).cells (⟨3, 0, 0, 69⟩ : Room).slots A = Q
  obtain ⟨hx, hb, hr, hts, hown, hlk, hml⟩ := C
  have hown : s.vm.findClass RX5 = some m.cls := hown
  have hS : va_S A s.heap s.heap [] := va_S.rf
  have hl : lv_has ls 3 [(0, .ref mh), (1, .int ba), (2, .int bb)] := hl
  have hmu := dm_mul hd
  obtain ⟨v9, hv9, ev9⟩ := put_v (z := (nr, nc, pL, pG, pB, pk)) (a := ba) (b := bb) hLR (show nr * nc < 2147483648 by omega)
  refine lv_aload_n hx hb dX5_put_0 rfl (lv_at hl 0 rfl) ?_
  refine callVv (As := []) (rest := []) (wc := (MW G mh md nr nc pL pG pB pk bf hi sv ch hs inp ty er wy wd rf lt ln th tr mv fo sp wr td)) (wr := ([] : va_W)) ⟨hx, hb, hml, hown, hts⟩ (m_X5_looksBack l G mh md nr nc pL pG pB pk bf hi sv ch hs inp ty er wy wd rf lt ln th tr mv fo sp wr td ) (cwV 0 hts (lw_V q1799 q1801 qs35 q105 q1802) rfl rfl rfl (by decide +kernel) ⟨Nat.le_of_ble_eq_true rfl, Nat.le_of_ble_eq_true rfl⟩) hK hZ hA hP hD hS [0, 1, 2, 3, 4, 5, 6, 7, 8, 9] [] rfl rfl (by decide) (by decide) (by decide) 0 4 rfl rfl rfl hl.1 (Nat.le_of_ble_eq_true rfl) ⟨Nat.le_of_ble_eq_true rfl, Nat.le_of_ble_eq_true rfl⟩ rfl dX5_put_1 (fun u9 H locs hw9 hP hD hS => ?_)
  have hP : va_P G.1 CL (MW G mh md nr nc pL pG pB pk (gZ (nr, nc, pL, pG, pB, pk)) hi sv ch hs inp ty er wy wd rf lt ln th tr mv fo sp wr td) _ := hP
  have hD : va_D A (MW G mh md nr nc pL pG pB pk (gZ (nr, nc, pL, pG, pB, pk)) hi sv ch hs inp ty er wy wd rf lt ln th tr mv fo sp wr td) := hD
  refine lv_aload_n hx hb dX5_put_4 rfl (lv_at hl 0 rfl) ?_
  refine lv_aload_n hx hb dX5_put_5 rfl (lv_at hl 0 rfl) ?_
  refine lv_iload_n hx hb dX5_put_6 rfl (lv_at hl 1 rfl) ?_
  refine lv_iload_n hx hb dX5_put_7 rfl (lv_at hl 2 rfl) ?_
  refine callVi (As := [.int ba, .int bb]) (rest := [.ref mh]) (wc := (MW G mh md nr nc pL pG pB pk (gZ (nr, nc, pL, pG, pB, pk)) hi sv ch hs inp ty er wy wd rf lt ln th tr mv fo sp wr td)) (wr := ([] : va_W)) ⟨hx, hb, hml, hown, hts⟩ (m_X5_puts l G mh md nr nc pL pG pB pk (gZ (nr, nc, pL, pG, pB, pk)) hi sv ch hs inp ty er wy wd rf lt ln th tr mv fo sp wr td ba bb (by first | assumption | omega) (by first | assumption | omega)) (cwV 2 hts (lw_V q1833 q1835 qs41 q105 q1836) rfl rfl rfl (by decide +kernel) ⟨Nat.le_of_ble_eq_true rfl, Nat.le_of_ble_eq_true rfl⟩) hK hZ hA hP hD hS [0, 1, 2, 3, 4, 5, 6, 7, 8, 9] [] rfl rfl (by decide) (by decide) (by decide) 0 4 rfl rfl rfl hl.1 (Nat.le_of_ble_eq_true rfl) ⟨Nat.le_of_ble_eq_true rfl, Nat.le_of_ble_eq_true rfl⟩ rfl dX5_put_8 (fun r9 u9 H locs hw9 hP hD hS => ?_)
  subst hw9
  have hP : va_P G.1 CL (MW G mh md ((oPut (nr, nc, pL, pG, pB, pk) ba bb).2.1.1) ((oPut (nr, nc, pL, pG, pB, pk) ba bb).2.1.2.1) ((oPut (nr, nc, pL, pG, pB, pk) ba bb).2.1.2.2.1) ((oPut (nr, nc, pL, pG, pB, pk) ba bb).2.1.2.2.2.1) ((oPut (nr, nc, pL, pG, pB, pk) ba bb).2.1.2.2.2.2.1) ((oPut (nr, nc, pL, pG, pB, pk) ba bb).2.1.2.2.2.2.2) (gZ (nr, nc, pL, pG, pB, pk)) hi sv ch hs inp ty er (oWy (oPut (nr, nc, pL, pG, pB, pk) ba bb) wy) (oWd (oPut (nr, nc, pL, pG, pB, pk) ba bb) wd) (oRf (oPut (nr, nc, pL, pG, pB, pk) ba bb) rf) lt ln (nI (oPut (nr, nc, pL, pG, pB, pk) ba bb).1) tr mv fo sp wr td) _ := hP
  have hD : va_D A (MW G mh md ((oPut (nr, nc, pL, pG, pB, pk) ba bb).2.1.1) ((oPut (nr, nc, pL, pG, pB, pk) ba bb).2.1.2.1) ((oPut (nr, nc, pL, pG, pB, pk) ba bb).2.1.2.2.1) ((oPut (nr, nc, pL, pG, pB, pk) ba bb).2.1.2.2.2.1) ((oPut (nr, nc, pL, pG, pB, pk) ba bb).2.1.2.2.2.2.1) ((oPut (nr, nc, pL, pG, pB, pk) ba bb).2.1.2.2.2.2.2) (gZ (nr, nc, pL, pG, pB, pk)) hi sv ch hs inp ty er (oWy (oPut (nr, nc, pL, pG, pB, pk) ba bb) wy) (oWd (oPut (nr, nc, pL, pG, pB, pk) ba bb) wd) (oRf (oPut (nr, nc, pL, pG, pB, pk) ba bb) rf) lt ln (nI (oPut (nr, nc, pL, pG, pB, pk) ba bb).1) tr mv fo sp wr td) := hD
  by_cases hk9 : (oPut (nr, nc, pL, pG, pB, pk) ba bb).1 = 0
  · skip
    refine callVi (As := [.int ((oPut (nr, nc, pL, pG, pB, pk) ba bb).2.2.1)]) (rest := []) (wc := (MW G mh md ((oPut (nr, nc, pL, pG, pB, pk) ba bb).2.1.1) ((oPut (nr, nc, pL, pG, pB, pk) ba bb).2.1.2.1) ((oPut (nr, nc, pL, pG, pB, pk) ba bb).2.1.2.2.1) ((oPut (nr, nc, pL, pG, pB, pk) ba bb).2.1.2.2.2.1) ((oPut (nr, nc, pL, pG, pB, pk) ba bb).2.1.2.2.2.2.1) ((oPut (nr, nc, pL, pG, pB, pk) ba bb).2.1.2.2.2.2.2) (gZ (nr, nc, pL, pG, pB, pk)) hi sv ch hs inp ty er (oWy (oPut (nr, nc, pL, pG, pB, pk) ba bb) wy) (oWd (oPut (nr, nc, pL, pG, pB, pk) ba bb) wd) (oRf (oPut (nr, nc, pL, pG, pB, pk) ba bb) rf) lt ln (nI (oPut (nr, nc, pL, pG, pB, pk) ba bb).1) tr mv fo sp wr td)) (wr := ([] : va_W)) ⟨hx, hb, hml, hown, hts⟩ (m_X5_kept__0 l G mh md ((oPut (nr, nc, pL, pG, pB, pk) ba bb).2.1.1) ((oPut (nr, nc, pL, pG, pB, pk) ba bb).2.1.2.1) ((oPut (nr, nc, pL, pG, pB, pk) ba bb).2.1.2.2.1) ((oPut (nr, nc, pL, pG, pB, pk) ba bb).2.1.2.2.2.1) ((oPut (nr, nc, pL, pG, pB, pk) ba bb).2.1.2.2.2.2.1) ((oPut (nr, nc, pL, pG, pB, pk) ba bb).2.1.2.2.2.2.2) hi sv ch hs inp ty er (oWy (oPut (nr, nc, pL, pG, pB, pk) ba bb) wy) (oWd (oPut (nr, nc, pL, pG, pB, pk) ba bb) wd) (oRf (oPut (nr, nc, pL, pG, pB, pk) ba bb) rf) lt ln (nI (oPut (nr, nc, pL, pG, pB, pk) ba bb).1) tr mv fo sp wr td ((oPut (nr, nc, pL, pG, pB, pk) ba bb).2.2.1) (nr, nc, pL, pG, pB, pk) zl (by rw [hk9]; exact nI_0) hH) (cwV 1 hts (lw_V q1825 q1827 qs40 q105 q1828) rfl rfl rfl (by decide +kernel) ⟨Nat.le_of_ble_eq_true rfl, Nat.le_of_ble_eq_true rfl⟩) hK hZ hA hP hD hS [0, 1, 2, 3, 4, 5, 6, 7, 8, 9] [] rfl rfl (by decide) (by decide) (by decide) 0 4 rfl rfl rfl hl.1 (Nat.le_of_ble_eq_true rfl) ⟨Nat.le_of_ble_eq_true rfl, Nat.le_of_ble_eq_true rfl⟩ rfl dX5_put_11 (fun r9 u9 H locs hw9 hP hD hS => ?_)
    obtain ⟨hi1_3, ch1_3⟩ := u9
    obtain ⟨hr9, hw11⟩ := hw9
    subst hr9
    have hw11 : HistA hi1_3 (pushH zl (nr, nc, pL, pG, pB, pk)) ch1_3 := hw11
    have hP : va_P G.1 CL (MW G mh md ((oPut (nr, nc, pL, pG, pB, pk) ba bb).2.1.1) ((oPut (nr, nc, pL, pG, pB, pk) ba bb).2.1.2.1) ((oPut (nr, nc, pL, pG, pB, pk) ba bb).2.1.2.2.1) ((oPut (nr, nc, pL, pG, pB, pk) ba bb).2.1.2.2.2.1) ((oPut (nr, nc, pL, pG, pB, pk) ba bb).2.1.2.2.2.2.1) ((oPut (nr, nc, pL, pG, pB, pk) ba bb).2.1.2.2.2.2.2) (gZ (nr, nc, pL, pG, pB, pk)) hi1_3 sv ch1_3 hs inp ty er (oWy (oPut (nr, nc, pL, pG, pB, pk) ba bb) wy) (oWd (oPut (nr, nc, pL, pG, pB, pk) ba bb) wd) (oRf (oPut (nr, nc, pL, pG, pB, pk) ba bb) rf) lt ln (nI (oPut (nr, nc, pL, pG, pB, pk) ba bb).1) tr mv fo sp wr td) _ := hP
    have hD : va_D A (MW G mh md ((oPut (nr, nc, pL, pG, pB, pk) ba bb).2.1.1) ((oPut (nr, nc, pL, pG, pB, pk) ba bb).2.1.2.1) ((oPut (nr, nc, pL, pG, pB, pk) ba bb).2.1.2.2.1) ((oPut (nr, nc, pL, pG, pB, pk) ba bb).2.1.2.2.2.1) ((oPut (nr, nc, pL, pG, pB, pk) ba bb).2.1.2.2.2.2.1) ((oPut (nr, nc, pL, pG, pB, pk) ba bb).2.1.2.2.2.2.2) (gZ (nr, nc, pL, pG, pB, pk)) hi1_3 sv ch1_3 hs inp ty er (oWy (oPut (nr, nc, pL, pG, pB, pk) ba bb) wy) (oWd (oPut (nr, nc, pL, pG, pB, pk) ba bb) wd) (oRf (oPut (nr, nc, pL, pG, pB, pk) ba bb) rf) lt ln (nI (oPut (nr, nc, pL, pG, pB, pk) ba bb).1) tr mv fo sp wr td) := hD
    refine eq_i (y := nI v9) ev9 ?_
    refine n_i2c hx hb (by omega) dX5_put_14 ?_
    subst hQ
    exact ret_i hx hb hr hlk (⟨hi1_3, ch1_3⟩) ⟨ev9.symm, (by rw [oH, if_pos hk9]; exact hw11)⟩ hP hD hS (pk_charN (by omega)).1 dX5_put_15
  · skip
    refine callVi (As := [.int ((oPut (nr, nc, pL, pG, pB, pk) ba bb).2.2.1)]) (rest := []) (wc := (MW G mh md ((oPut (nr, nc, pL, pG, pB, pk) ba bb).2.1.1) ((oPut (nr, nc, pL, pG, pB, pk) ba bb).2.1.2.1) ((oPut (nr, nc, pL, pG, pB, pk) ba bb).2.1.2.2.1) ((oPut (nr, nc, pL, pG, pB, pk) ba bb).2.1.2.2.2.1) ((oPut (nr, nc, pL, pG, pB, pk) ba bb).2.1.2.2.2.2.1) ((oPut (nr, nc, pL, pG, pB, pk) ba bb).2.1.2.2.2.2.2) (gZ (nr, nc, pL, pG, pB, pk)) hi sv ch hs inp ty er (oWy (oPut (nr, nc, pL, pG, pB, pk) ba bb) wy) (oWd (oPut (nr, nc, pL, pG, pB, pk) ba bb) wd) (oRf (oPut (nr, nc, pL, pG, pB, pk) ba bb) rf) lt ln (nI (oPut (nr, nc, pL, pG, pB, pk) ba bb).1) tr mv fo sp wr td)) (wr := ([] : va_W)) ⟨hx, hb, hml, hown, hts⟩ (m_X5_kept__t l G mh md ((oPut (nr, nc, pL, pG, pB, pk) ba bb).2.1.1) ((oPut (nr, nc, pL, pG, pB, pk) ba bb).2.1.2.1) ((oPut (nr, nc, pL, pG, pB, pk) ba bb).2.1.2.2.1) ((oPut (nr, nc, pL, pG, pB, pk) ba bb).2.1.2.2.2.1) ((oPut (nr, nc, pL, pG, pB, pk) ba bb).2.1.2.2.2.2.1) ((oPut (nr, nc, pL, pG, pB, pk) ba bb).2.1.2.2.2.2.2) hi sv ch hs inp ty er (oWy (oPut (nr, nc, pL, pG, pB, pk) ba bb) wy) (oWd (oPut (nr, nc, pL, pG, pB, pk) ba bb) wd) (oRf (oPut (nr, nc, pL, pG, pB, pk) ba bb) rf) lt ln (nI (oPut (nr, nc, pL, pG, pB, pk) ba bb).1) tr mv fo sp wr td ((oPut (nr, nc, pL, pG, pB, pk) ba bb).2.2.1) (nr, nc, pL, pG, pB, pk) ((ok_put (nr, nc, pL, pG, pB, pk) ba bb).th hk9)) (cwV 1 hts (lw_V q1825 q1827 qs40 q105 q1828) rfl rfl rfl (by decide +kernel) ⟨Nat.le_of_ble_eq_true rfl, Nat.le_of_ble_eq_true rfl⟩) hK hZ hA hP hD hS [0, 1, 2, 3, 4, 5, 6, 7, 8, 9] [] rfl rfl (by decide) (by decide) (by decide) 0 4 rfl rfl rfl hl.1 (Nat.le_of_ble_eq_true rfl) ⟨Nat.le_of_ble_eq_true rfl, Nat.le_of_ble_eq_true rfl⟩ rfl dX5_put_11 (fun r9 u9 H locs hw9 hP hD hS => ?_)
    subst hw9
    have hP : va_P G.1 CL (MW G mh md ((nr, nc, pL, pG, pB, pk).1) ((nr, nc, pL, pG, pB, pk).2.1) ((nr, nc, pL, pG, pB, pk).2.2.1) ((nr, nc, pL, pG, pB, pk).2.2.2.1) ((nr, nc, pL, pG, pB, pk).2.2.2.2.1) ((nr, nc, pL, pG, pB, pk).2.2.2.2.2) (gZ (nr, nc, pL, pG, pB, pk)) hi sv ch hs inp ty er (oWy (oPut (nr, nc, pL, pG, pB, pk) ba bb) wy) (oWd (oPut (nr, nc, pL, pG, pB, pk) ba bb) wd) (oRf (oPut (nr, nc, pL, pG, pB, pk) ba bb) rf) lt ln (nI (oPut (nr, nc, pL, pG, pB, pk) ba bb).1) tr mv fo sp wr td) _ := hP
    have hD : va_D A (MW G mh md ((nr, nc, pL, pG, pB, pk).1) ((nr, nc, pL, pG, pB, pk).2.1) ((nr, nc, pL, pG, pB, pk).2.2.1) ((nr, nc, pL, pG, pB, pk).2.2.2.1) ((nr, nc, pL, pG, pB, pk).2.2.2.2.1) ((nr, nc, pL, pG, pB, pk).2.2.2.2.2) (gZ (nr, nc, pL, pG, pB, pk)) hi sv ch hs inp ty er (oWy (oPut (nr, nc, pL, pG, pB, pk) ba bb) wy) (oWd (oPut (nr, nc, pL, pG, pB, pk) ba bb) wd) (oRf (oPut (nr, nc, pL, pG, pB, pk) ba bb) rf) lt ln (nI (oPut (nr, nc, pL, pG, pB, pk) ba bb).1) tr mv fo sp wr td) := hD
    have hP : va_P G.1 CL (MW G mh md nr nc pL pG pB pk (gZ (nr, nc, pL, pG, pB, pk)) hi sv ch hs inp ty er (oWy (oPut (nr, nc, pL, pG, pB, pk) ba bb) wy) (oWd (oPut (nr, nc, pL, pG, pB, pk) ba bb) wd) (oRf (oPut (nr, nc, pL, pG, pB, pk) ba bb) rf) lt ln (nI (oPut (nr, nc, pL, pG, pB, pk) ba bb).1) tr mv fo sp wr td) _ := hP
    have hD : va_D A (MW G mh md nr nc pL pG pB pk (gZ (nr, nc, pL, pG, pB, pk)) hi sv ch hs inp ty er (oWy (oPut (nr, nc, pL, pG, pB, pk) ba bb) wy) (oWd (oPut (nr, nc, pL, pG, pB, pk) ba bb) wd) (oRf (oPut (nr, nc, pL, pG, pB, pk) ba bb) rf) lt ln (nI (oPut (nr, nc, pL, pG, pB, pk) ba bb).1) tr mv fo sp wr td) := hD
    have hz9 := ((ok_put (nr, nc, pL, pG, pB, pk) ba bb)).2.1 hk9
    refine n_i2c hx hb (by omega) dX5_put_14 ?_
    subst hQ
    rw [hz9.1]
    exact ret_i hx hb hr hlk (⟨hi, ch⟩) ⟨hz9.2.symm, (by rw [oH, if_neg hk9]; exact hH)⟩ hP hD hS (pk_charN (by omega)).1 dX5_put_15
set_option maxHeartbeats 4000000 in
set_option maxRecDepth 100000 in
theorem m_X5_goal (l : Launch) (G : GG) (mh : Nat) (md : Nat → Nat) (nr : Nat) (nc : Nat) (pL : Nat → Nat) (pG : Nat → Nat) (pB : Nat → Bool) (pk : Nat → Int32) (bf : Nat → Int32) (hi : Nat → Int32) (sv : Nat → Int32) (ch : Nat) (hs : Bool) (inp : Nat → Nat) (ty : Nat) (er : Int32) (wy : Int32) (wd : Int32) (rf : Bool) (lt : Nat → Nat) (ln : Nat) (th : Int32) (tr : Nat → Nat) (mv : Nat → Nat) (fo : Int32) (sp : Nat) (wr : Bool) (td : Nat → Int32) (ba : Int32) (bb : Int32) (zl : List ZT) (hd : 2 ≤ nr ∧ nr ≤ 3 ∧ 2 ≤ nc ∧ nc ≤ 3) (hKR : ∀ q, q < nr * nc → pG q = 46 ∨ (97 ≤ pG q ∧ pG q ≤ 108)) (hH : HistA hi zl ch) : MM l G yX5_goal cX5_goal 3 (some .char) ⟨3, 0, 0, 69⟩ [.ref mh, .int ba, .int bb] (MW G mh md nr nc pL pG pB pk bf hi sv ch hs inp ty er wy wd rf lt ln th tr mv fo sp wr td) (Qi_ G (fun (r : Int32) (u : (Nat → Int32) × (Nat)) => (r = (oGoal (nr, nc, pL, pG, pB, pk) ba bb).2.2.1) ∧ (HistA u.1 (oH (oGoal (nr, nc, pL, pG, pB, pk) ba bb) zl (nr, nc, pL, pG, pB, pk)) u.2)) (fun (u : (Nat → Int32) × (Nat)) => (MW G mh md ((oGoal (nr, nc, pL, pG, pB, pk) ba bb).2.1.1) ((oGoal (nr, nc, pL, pG, pB, pk) ba bb).2.1.2.1) ((oGoal (nr, nc, pL, pG, pB, pk) ba bb).2.1.2.2.1) ((oGoal (nr, nc, pL, pG, pB, pk) ba bb).2.1.2.2.2.1) ((oGoal (nr, nc, pL, pG, pB, pk) ba bb).2.1.2.2.2.2.1) ((oGoal (nr, nc, pL, pG, pB, pk) ba bb).2.1.2.2.2.2.2) (gZ (nr, nc, pL, pG, pB, pk)) u.1 sv u.2 hs inp ty er (oWy (oGoal (nr, nc, pL, pG, pB, pk) ba bb) wy) (oWd (oGoal (nr, nc, pL, pG, pB, pk) ba bb) wd) (oRf (oGoal (nr, nc, pL, pG, pB, pk) ba bb) rf) lt ln (nI (oGoal (nr, nc, pL, pG, pB, pk) ba bb).1) tr mv fo sp wr td))) := by
  refine MM.of (by decide) (Nat.le_of_ble_eq_true rfl) ?_
  intro p e s m args below meth cd A C hini hA hK hZ hP hD ls hl
  generalize hQ : MQ below ((Qi_ G (fun (r : Int32) (u : (Nat → Int32) × (Nat)) => (r = (oGoal (nr, nc, pL, pG, pB, pk) ba bb).2.2.1) ∧ (HistA u.1 (oH (oGoal (nr, nc, pL, pG, pB, pk) ba bb) zl (nr, nc, pL, pG, pB, pk)) u.2)) (fun (u : (Nat → Int32) × (Nat)) => (MW G mh md ((oGoal (nr, nc, pL, pG, pB, pk) ba bb).2.1.1) ((oGoal (nr, nc, pL, pG, pB, pk) ba bb).2.1.2.1) ((oGoal (nr, nc, pL, pG, pB, pk) ba bb).2.1.2.2.1) ((oGoal (nr, nc, pL, pG, pB, pk) ba bb).2.1.2.2.2.1) ((oGoal (nr, nc, pL, pG, pB, pk) ba bb).2.1.2.2.2.2.1) ((oGoal (nr, nc, pL, pG, pB, pk) ba bb).2.1.2.2.2.2.2) (gZ (nr, nc, pL, pG, pB, pk)) u.1 sv u.2 hs inp ty er (oWy (oGoal (nr, nc, pL, pG, pB, pk) ba bb) wy) (oWd (oGoal (nr, nc, pL, pG, pB, pk) ba bb) wd) (oRf (oGoal (nr, nc, pL, pG, pB, pk) ba bb) rf) lt ln (nI (oGoal (nr, nc, pL, pG, pB, pk) ba bb).1) tr mv fo sp wr td))) A) args s (⟨3, 0, 0, 69⟩ : Room).cells (⟨3, 0, 0, 69⟩ : Room).slots A = Q
  obtain ⟨hx, hb, hr, hts, hown, hlk, hml⟩ := C
  have hown : s.vm.findClass RX5 = some m.cls := hown
  have hS : va_S A s.heap s.heap [] := va_S.rf
  have hl : lv_has ls 3 [(0, .ref mh), (1, .int ba), (2, .int bb)] := hl
  have hmu := dm_mul hd
  obtain ⟨v9, hv9, ev9⟩ := goal_v (z := (nr, nc, pL, pG, pB, pk)) (a := ba) (b := bb) hKR (show nr * nc < 2147483648 by omega)
  refine lv_aload_n hx hb dX5_goal_0 rfl (lv_at hl 0 rfl) ?_
  refine callVv (As := []) (rest := []) (wc := (MW G mh md nr nc pL pG pB pk bf hi sv ch hs inp ty er wy wd rf lt ln th tr mv fo sp wr td)) (wr := ([] : va_W)) ⟨hx, hb, hml, hown, hts⟩ (m_X5_looksBack l G mh md nr nc pL pG pB pk bf hi sv ch hs inp ty er wy wd rf lt ln th tr mv fo sp wr td ) (cwV 0 hts (lw_V q1799 q1801 qs35 q105 q1802) rfl rfl rfl (by decide +kernel) ⟨Nat.le_of_ble_eq_true rfl, Nat.le_of_ble_eq_true rfl⟩) hK hZ hA hP hD hS [0, 1, 2, 3, 4, 5, 6, 7, 8, 9] [] rfl rfl (by decide) (by decide) (by decide) 0 4 rfl rfl rfl hl.1 (Nat.le_of_ble_eq_true rfl) ⟨Nat.le_of_ble_eq_true rfl, Nat.le_of_ble_eq_true rfl⟩ rfl dX5_goal_1 (fun u9 H locs hw9 hP hD hS => ?_)
  have hP : va_P G.1 CL (MW G mh md nr nc pL pG pB pk (gZ (nr, nc, pL, pG, pB, pk)) hi sv ch hs inp ty er wy wd rf lt ln th tr mv fo sp wr td) _ := hP
  have hD : va_D A (MW G mh md nr nc pL pG pB pk (gZ (nr, nc, pL, pG, pB, pk)) hi sv ch hs inp ty er wy wd rf lt ln th tr mv fo sp wr td) := hD
  refine lv_aload_n hx hb dX5_goal_4 rfl (lv_at hl 0 rfl) ?_
  refine lv_aload_n hx hb dX5_goal_5 rfl (lv_at hl 0 rfl) ?_
  refine lv_iload_n hx hb dX5_goal_6 rfl (lv_at hl 1 rfl) ?_
  refine lv_iload_n hx hb dX5_goal_7 rfl (lv_at hl 2 rfl) ?_
  refine callVi (As := [.int ba, .int bb]) (rest := [.ref mh]) (wc := (MW G mh md nr nc pL pG pB pk (gZ (nr, nc, pL, pG, pB, pk)) hi sv ch hs inp ty er wy wd rf lt ln th tr mv fo sp wr td)) (wr := ([] : va_W)) ⟨hx, hb, hml, hown, hts⟩ (m_X5_goals l G mh md nr nc pL pG pB pk (gZ (nr, nc, pL, pG, pB, pk)) hi sv ch hs inp ty er wy wd rf lt ln th tr mv fo sp wr td ba bb (by first | assumption | omega) (by first | assumption | omega)) (cwV 2 hts (lw_V q1859 q1861 qs45 q105 q1862) rfl rfl rfl (by decide +kernel) ⟨Nat.le_of_ble_eq_true rfl, Nat.le_of_ble_eq_true rfl⟩) hK hZ hA hP hD hS [0, 1, 2, 3, 4, 5, 6, 7, 8, 9] [] rfl rfl (by decide) (by decide) (by decide) 0 4 rfl rfl rfl hl.1 (Nat.le_of_ble_eq_true rfl) ⟨Nat.le_of_ble_eq_true rfl, Nat.le_of_ble_eq_true rfl⟩ rfl dX5_goal_8 (fun r9 u9 H locs hw9 hP hD hS => ?_)
  subst hw9
  have hP : va_P G.1 CL (MW G mh md ((oGoal (nr, nc, pL, pG, pB, pk) ba bb).2.1.1) ((oGoal (nr, nc, pL, pG, pB, pk) ba bb).2.1.2.1) ((oGoal (nr, nc, pL, pG, pB, pk) ba bb).2.1.2.2.1) ((oGoal (nr, nc, pL, pG, pB, pk) ba bb).2.1.2.2.2.1) ((oGoal (nr, nc, pL, pG, pB, pk) ba bb).2.1.2.2.2.2.1) ((oGoal (nr, nc, pL, pG, pB, pk) ba bb).2.1.2.2.2.2.2) (gZ (nr, nc, pL, pG, pB, pk)) hi sv ch hs inp ty er (oWy (oGoal (nr, nc, pL, pG, pB, pk) ba bb) wy) (oWd (oGoal (nr, nc, pL, pG, pB, pk) ba bb) wd) (oRf (oGoal (nr, nc, pL, pG, pB, pk) ba bb) rf) lt ln (nI (oGoal (nr, nc, pL, pG, pB, pk) ba bb).1) tr mv fo sp wr td) _ := hP
  have hD : va_D A (MW G mh md ((oGoal (nr, nc, pL, pG, pB, pk) ba bb).2.1.1) ((oGoal (nr, nc, pL, pG, pB, pk) ba bb).2.1.2.1) ((oGoal (nr, nc, pL, pG, pB, pk) ba bb).2.1.2.2.1) ((oGoal (nr, nc, pL, pG, pB, pk) ba bb).2.1.2.2.2.1) ((oGoal (nr, nc, pL, pG, pB, pk) ba bb).2.1.2.2.2.2.1) ((oGoal (nr, nc, pL, pG, pB, pk) ba bb).2.1.2.2.2.2.2) (gZ (nr, nc, pL, pG, pB, pk)) hi sv ch hs inp ty er (oWy (oGoal (nr, nc, pL, pG, pB, pk) ba bb) wy) (oWd (oGoal (nr, nc, pL, pG, pB, pk) ba bb) wd) (oRf (oGoal (nr, nc, pL, pG, pB, pk) ba bb) rf) lt ln (nI (oGoal (nr, nc, pL, pG, pB, pk) ba bb).1) tr mv fo sp wr td) := hD
  by_cases hk9 : (oGoal (nr, nc, pL, pG, pB, pk) ba bb).1 = 0
  · skip
    refine callVi (As := [.int ((oGoal (nr, nc, pL, pG, pB, pk) ba bb).2.2.1)]) (rest := []) (wc := (MW G mh md ((oGoal (nr, nc, pL, pG, pB, pk) ba bb).2.1.1) ((oGoal (nr, nc, pL, pG, pB, pk) ba bb).2.1.2.1) ((oGoal (nr, nc, pL, pG, pB, pk) ba bb).2.1.2.2.1) ((oGoal (nr, nc, pL, pG, pB, pk) ba bb).2.1.2.2.2.1) ((oGoal (nr, nc, pL, pG, pB, pk) ba bb).2.1.2.2.2.2.1) ((oGoal (nr, nc, pL, pG, pB, pk) ba bb).2.1.2.2.2.2.2) (gZ (nr, nc, pL, pG, pB, pk)) hi sv ch hs inp ty er (oWy (oGoal (nr, nc, pL, pG, pB, pk) ba bb) wy) (oWd (oGoal (nr, nc, pL, pG, pB, pk) ba bb) wd) (oRf (oGoal (nr, nc, pL, pG, pB, pk) ba bb) rf) lt ln (nI (oGoal (nr, nc, pL, pG, pB, pk) ba bb).1) tr mv fo sp wr td)) (wr := ([] : va_W)) ⟨hx, hb, hml, hown, hts⟩ (m_X5_kept__0 l G mh md ((oGoal (nr, nc, pL, pG, pB, pk) ba bb).2.1.1) ((oGoal (nr, nc, pL, pG, pB, pk) ba bb).2.1.2.1) ((oGoal (nr, nc, pL, pG, pB, pk) ba bb).2.1.2.2.1) ((oGoal (nr, nc, pL, pG, pB, pk) ba bb).2.1.2.2.2.1) ((oGoal (nr, nc, pL, pG, pB, pk) ba bb).2.1.2.2.2.2.1) ((oGoal (nr, nc, pL, pG, pB, pk) ba bb).2.1.2.2.2.2.2) hi sv ch hs inp ty er (oWy (oGoal (nr, nc, pL, pG, pB, pk) ba bb) wy) (oWd (oGoal (nr, nc, pL, pG, pB, pk) ba bb) wd) (oRf (oGoal (nr, nc, pL, pG, pB, pk) ba bb) rf) lt ln (nI (oGoal (nr, nc, pL, pG, pB, pk) ba bb).1) tr mv fo sp wr td ((oGoal (nr, nc, pL, pG, pB, pk) ba bb).2.2.1) (nr, nc, pL, pG, pB, pk) zl (by rw [hk9]; exact nI_0) hH) (cwV 1 hts (lw_V q1825 q1827 qs40 q105 q1828) rfl rfl rfl (by decide +kernel) ⟨Nat.le_of_ble_eq_true rfl, Nat.le_of_ble_eq_true rfl⟩) hK hZ hA hP hD hS [0, 1, 2, 3, 4, 5, 6, 7, 8, 9] [] rfl rfl (by decide) (by decide) (by decide) 0 4 rfl rfl rfl hl.1 (Nat.le_of_ble_eq_true rfl) ⟨Nat.le_of_ble_eq_true rfl, Nat.le_of_ble_eq_true rfl⟩ rfl dX5_goal_11 (fun r9 u9 H locs hw9 hP hD hS => ?_)
    obtain ⟨hi1_3, ch1_3⟩ := u9
    obtain ⟨hr9, hw11⟩ := hw9
    subst hr9
    have hw11 : HistA hi1_3 (pushH zl (nr, nc, pL, pG, pB, pk)) ch1_3 := hw11
    have hP : va_P G.1 CL (MW G mh md ((oGoal (nr, nc, pL, pG, pB, pk) ba bb).2.1.1) ((oGoal (nr, nc, pL, pG, pB, pk) ba bb).2.1.2.1) ((oGoal (nr, nc, pL, pG, pB, pk) ba bb).2.1.2.2.1) ((oGoal (nr, nc, pL, pG, pB, pk) ba bb).2.1.2.2.2.1) ((oGoal (nr, nc, pL, pG, pB, pk) ba bb).2.1.2.2.2.2.1) ((oGoal (nr, nc, pL, pG, pB, pk) ba bb).2.1.2.2.2.2.2) (gZ (nr, nc, pL, pG, pB, pk)) hi1_3 sv ch1_3 hs inp ty er (oWy (oGoal (nr, nc, pL, pG, pB, pk) ba bb) wy) (oWd (oGoal (nr, nc, pL, pG, pB, pk) ba bb) wd) (oRf (oGoal (nr, nc, pL, pG, pB, pk) ba bb) rf) lt ln (nI (oGoal (nr, nc, pL, pG, pB, pk) ba bb).1) tr mv fo sp wr td) _ := hP
    have hD : va_D A (MW G mh md ((oGoal (nr, nc, pL, pG, pB, pk) ba bb).2.1.1) ((oGoal (nr, nc, pL, pG, pB, pk) ba bb).2.1.2.1) ((oGoal (nr, nc, pL, pG, pB, pk) ba bb).2.1.2.2.1) ((oGoal (nr, nc, pL, pG, pB, pk) ba bb).2.1.2.2.2.1) ((oGoal (nr, nc, pL, pG, pB, pk) ba bb).2.1.2.2.2.2.1) ((oGoal (nr, nc, pL, pG, pB, pk) ba bb).2.1.2.2.2.2.2) (gZ (nr, nc, pL, pG, pB, pk)) hi1_3 sv ch1_3 hs inp ty er (oWy (oGoal (nr, nc, pL, pG, pB, pk) ba bb) wy) (oWd (oGoal (nr, nc, pL, pG, pB, pk) ba bb) wd) (oRf (oGoal (nr, nc, pL, pG, pB, pk) ba bb) rf) lt ln (nI (oGoal (nr, nc, pL, pG, pB, pk) ba bb).1) tr mv fo sp wr td) := hD
    refine eq_i (y := nI v9) ev9 ?_
    refine n_i2c hx hb (by omega) dX5_goal_14 ?_
    subst hQ
    exact ret_i hx hb hr hlk (⟨hi1_3, ch1_3⟩) ⟨ev9.symm, (by rw [oH, if_pos hk9]; exact hw11)⟩ hP hD hS (pk_charN (by omega)).1 dX5_goal_15
  · skip
    refine callVi (As := [.int ((oGoal (nr, nc, pL, pG, pB, pk) ba bb).2.2.1)]) (rest := []) (wc := (MW G mh md ((oGoal (nr, nc, pL, pG, pB, pk) ba bb).2.1.1) ((oGoal (nr, nc, pL, pG, pB, pk) ba bb).2.1.2.1) ((oGoal (nr, nc, pL, pG, pB, pk) ba bb).2.1.2.2.1) ((oGoal (nr, nc, pL, pG, pB, pk) ba bb).2.1.2.2.2.1) ((oGoal (nr, nc, pL, pG, pB, pk) ba bb).2.1.2.2.2.2.1) ((oGoal (nr, nc, pL, pG, pB, pk) ba bb).2.1.2.2.2.2.2) (gZ (nr, nc, pL, pG, pB, pk)) hi sv ch hs inp ty er (oWy (oGoal (nr, nc, pL, pG, pB, pk) ba bb) wy) (oWd (oGoal (nr, nc, pL, pG, pB, pk) ba bb) wd) (oRf (oGoal (nr, nc, pL, pG, pB, pk) ba bb) rf) lt ln (nI (oGoal (nr, nc, pL, pG, pB, pk) ba bb).1) tr mv fo sp wr td)) (wr := ([] : va_W)) ⟨hx, hb, hml, hown, hts⟩ (m_X5_kept__t l G mh md ((oGoal (nr, nc, pL, pG, pB, pk) ba bb).2.1.1) ((oGoal (nr, nc, pL, pG, pB, pk) ba bb).2.1.2.1) ((oGoal (nr, nc, pL, pG, pB, pk) ba bb).2.1.2.2.1) ((oGoal (nr, nc, pL, pG, pB, pk) ba bb).2.1.2.2.2.1) ((oGoal (nr, nc, pL, pG, pB, pk) ba bb).2.1.2.2.2.2.1) ((oGoal (nr, nc, pL, pG, pB, pk) ba bb).2.1.2.2.2.2.2) hi sv ch hs inp ty er (oWy (oGoal (nr, nc, pL, pG, pB, pk) ba bb) wy) (oWd (oGoal (nr, nc, pL, pG, pB, pk) ba bb) wd) (oRf (oGoal (nr, nc, pL, pG, pB, pk) ba bb) rf) lt ln (nI (oGoal (nr, nc, pL, pG, pB, pk) ba bb).1) tr mv fo sp wr td ((oGoal (nr, nc, pL, pG, pB, pk) ba bb).2.2.1) (nr, nc, pL, pG, pB, pk) ((ok_goal (nr, nc, pL, pG, pB, pk) ba bb).th hk9)) (cwV 1 hts (lw_V q1825 q1827 qs40 q105 q1828) rfl rfl rfl (by decide +kernel) ⟨Nat.le_of_ble_eq_true rfl, Nat.le_of_ble_eq_true rfl⟩) hK hZ hA hP hD hS [0, 1, 2, 3, 4, 5, 6, 7, 8, 9] [] rfl rfl (by decide) (by decide) (by decide) 0 4 rfl rfl rfl hl.1 (Nat.le_of_ble_eq_true rfl) ⟨Nat.le_of_ble_eq_true rfl, Nat.le_of_ble_eq_true rfl⟩ rfl dX5_goal_11 (fun r9 u9 H locs hw9 hP hD hS => ?_)
    subst hw9
    have hP : va_P G.1 CL (MW G mh md ((nr, nc, pL, pG, pB, pk).1) ((nr, nc, pL, pG, pB, pk).2.1) ((nr, nc, pL, pG, pB, pk).2.2.1) ((nr, nc, pL, pG, pB, pk).2.2.2.1) ((nr, nc, pL, pG, pB, pk).2.2.2.2.1) ((nr, nc, pL, pG, pB, pk).2.2.2.2.2) (gZ (nr, nc, pL, pG, pB, pk)) hi sv ch hs inp ty er (oWy (oGoal (nr, nc, pL, pG, pB, pk) ba bb) wy) (oWd (oGoal (nr, nc, pL, pG, pB, pk) ba bb) wd) (oRf (oGoal (nr, nc, pL, pG, pB, pk) ba bb) rf) lt ln (nI (oGoal (nr, nc, pL, pG, pB, pk) ba bb).1) tr mv fo sp wr td) _ := hP
    have hD : va_D A (MW G mh md ((nr, nc, pL, pG, pB, pk).1) ((nr, nc, pL, pG, pB, pk).2.1) ((nr, nc, pL, pG, pB, pk).2.2.1) ((nr, nc, pL, pG, pB, pk).2.2.2.1) ((nr, nc, pL, pG, pB, pk).2.2.2.2.1) ((nr, nc, pL, pG, pB, pk).2.2.2.2.2) (gZ (nr, nc, pL, pG, pB, pk)) hi sv ch hs inp ty er (oWy (oGoal (nr, nc, pL, pG, pB, pk) ba bb) wy) (oWd (oGoal (nr, nc, pL, pG, pB, pk) ba bb) wd) (oRf (oGoal (nr, nc, pL, pG, pB, pk) ba bb) rf) lt ln (nI (oGoal (nr, nc, pL, pG, pB, pk) ba bb).1) tr mv fo sp wr td) := hD
    have hP : va_P G.1 CL (MW G mh md nr nc pL pG pB pk (gZ (nr, nc, pL, pG, pB, pk)) hi sv ch hs inp ty er (oWy (oGoal (nr, nc, pL, pG, pB, pk) ba bb) wy) (oWd (oGoal (nr, nc, pL, pG, pB, pk) ba bb) wd) (oRf (oGoal (nr, nc, pL, pG, pB, pk) ba bb) rf) lt ln (nI (oGoal (nr, nc, pL, pG, pB, pk) ba bb).1) tr mv fo sp wr td) _ := hP
    have hD : va_D A (MW G mh md nr nc pL pG pB pk (gZ (nr, nc, pL, pG, pB, pk)) hi sv ch hs inp ty er (oWy (oGoal (nr, nc, pL, pG, pB, pk) ba bb) wy) (oWd (oGoal (nr, nc, pL, pG, pB, pk) ba bb) wd) (oRf (oGoal (nr, nc, pL, pG, pB, pk) ba bb) rf) lt ln (nI (oGoal (nr, nc, pL, pG, pB, pk) ba bb).1) tr mv fo sp wr td) := hD
    have hz9 := ((ok_goal (nr, nc, pL, pG, pB, pk) ba bb)).2.1 hk9
    refine n_i2c hx hb (by omega) dX5_goal_14 ?_
    subst hQ
    rw [hz9.1]
    exact ret_i hx hb hr hlk (⟨hi, ch⟩) ⟨hz9.2.symm, (by rw [oH, if_neg hk9]; exact hH)⟩ hP hD hS (pk_charN (by omega)).1 dX5_goal_15
set_option maxHeartbeats 4000000 in
set_option maxRecDepth 100000 in
theorem m_X5_turn (l : Launch) (G : GG) (mh : Nat) (md : Nat → Nat) (nr : Nat) (nc : Nat) (pL : Nat → Nat) (pG : Nat → Nat) (pB : Nat → Bool) (pk : Nat → Int32) (bf : Nat → Int32) (hi : Nat → Int32) (sv : Nat → Int32) (ch : Nat) (hs : Bool) (inp : Nat → Nat) (ty : Nat) (er : Int32) (wy : Int32) (wd : Int32) (rf : Bool) (lt : Nat → Nat) (ln : Nat) (th : Int32) (tr : Nat → Nat) (mv : Nat → Nat) (fo : Int32) (sp : Nat) (wr : Bool) (td : Nat → Int32) (ba : Int32) (zl : List ZT) (hd : 2 ≤ nr ∧ nr ≤ 3 ∧ 2 ≤ nc ∧ nc ≤ 3) (hLR : ∀ q, q < nr * nc → 97 ≤ pL q ∧ pL q ≤ 108) (hKR : ∀ q, q < nr * nc → pG q = 46 ∨ (97 ≤ pG q ∧ pG q ≤ 108)) (hH : HistA hi zl ch) : MM l G yX5_turn cX5_turn 2 (some .int) ⟨5, 0, 0, 113⟩ [.ref mh, .int ba] (MW G mh md nr nc pL pG pB pk bf hi sv ch hs inp ty er wy wd rf lt ln th tr mv fo sp wr td) (Qi_ G (fun (r : Int32) (u : (Nat → Int32) × (Nat) × (Nat → Nat) × (Nat → Nat)) => (r = (oTurn (nr, nc, pL, pG, pB, pk) ba).2.2.1) ∧ (HistA u.1 (oH (oTurn (nr, nc, pL, pG, pB, pk) ba) zl (nr, nc, pL, pG, pB, pk)) u.2.1)) (fun (u : (Nat → Int32) × (Nat) × (Nat → Nat) × (Nat → Nat)) => (MW G mh md ((oTurn (nr, nc, pL, pG, pB, pk) ba).2.1.1) ((oTurn (nr, nc, pL, pG, pB, pk) ba).2.1.2.1) ((oTurn (nr, nc, pL, pG, pB, pk) ba).2.1.2.2.1) ((oTurn (nr, nc, pL, pG, pB, pk) ba).2.1.2.2.2.1) ((oTurn (nr, nc, pL, pG, pB, pk) ba).2.1.2.2.2.2.1) ((oTurn (nr, nc, pL, pG, pB, pk) ba).2.1.2.2.2.2.2) (gZ (nr, nc, pL, pG, pB, pk)) u.1 sv u.2.1 hs inp ty er (oWy (oTurn (nr, nc, pL, pG, pB, pk) ba) wy) (oWd (oTurn (nr, nc, pL, pG, pB, pk) ba) wd) (oRf (oTurn (nr, nc, pL, pG, pB, pk) ba) rf) lt ln (nI (oTurn (nr, nc, pL, pG, pB, pk) ba).1) u.2.2.1 u.2.2.2 fo sp wr td))) := by
  refine MM.of (by decide) (Nat.le_of_ble_eq_true rfl) ?_
  intro p e s m args below meth cd A C hini hA hK hZ hP hD ls hl
  generalize hQ : MQ below ((Qi_ G (fun (r : Int32) (u : (Nat → Int32) × (Nat) × (Nat → Nat) × (Nat → Nat)) => (r = (oTurn (nr, nc, pL, pG, pB, pk) ba).2.2.1) ∧ (HistA u.1 (oH (oTurn (nr, nc, pL, pG, pB, pk) ba) zl (nr, nc, pL, pG, pB, pk)) u.2.1)) (fun (u : (Nat → Int32) × (Nat) × (Nat → Nat) × (Nat → Nat)) => (MW G mh md ((oTurn (nr, nc, pL, pG, pB, pk) ba).2.1.1) ((oTurn (nr, nc, pL, pG, pB, pk) ba).2.1.2.1) ((oTurn (nr, nc, pL, pG, pB, pk) ba).2.1.2.2.1) ((oTurn (nr, nc, pL, pG, pB, pk) ba).2.1.2.2.2.1) ((oTurn (nr, nc, pL, pG, pB, pk) ba).2.1.2.2.2.2.1) ((oTurn (nr, nc, pL, pG, pB, pk) ba).2.1.2.2.2.2.2) (gZ (nr, nc, pL, pG, pB, pk)) u.1 sv u.2.1 hs inp ty er (oWy (oTurn (nr, nc, pL, pG, pB, pk) ba) wy) (oWd (oTurn (nr, nc, pL, pG, pB, pk) ba) wd) (oRf (oTurn (nr, nc, pL, pG, pB, pk) ba) rf) lt ln (nI (oTurn (nr, nc, pL, pG, pB, pk) ba).1) u.2.2.1 u.2.2.2 fo sp wr td))) A) args s (⟨5, 0, 0, 113⟩ : Room).cells (⟨5, 0, 0, 113⟩ : Room).slots A = Q
  obtain ⟨hx, hb, hr, hts, hown, hlk, hml⟩ := C
  have hown : s.vm.findClass RX5 = some m.cls := hown
  have hS : va_S A s.heap s.heap [] := va_S.rf
  have hl : lv_has ls 2 [(0, .ref mh), (1, .int ba)] := hl
  have hmu := dm_mul hd
  refine lv_aload_n hx hb dX5_turn_0 rfl (lv_at hl 0 rfl) ?_
  refine callVv (As := []) (rest := []) (wc := (MW G mh md nr nc pL pG pB pk bf hi sv ch hs inp ty er wy wd rf lt ln th tr mv fo sp wr td)) (wr := ([] : va_W)) ⟨hx, hb, hml, hown, hts⟩ (m_X5_looksBack l G mh md nr nc pL pG pB pk bf hi sv ch hs inp ty er wy wd rf lt ln th tr mv fo sp wr td ) (cwV 0 hts (lw_V q1799 q1801 qs35 q105 q1802) rfl rfl rfl (by decide +kernel) ⟨Nat.le_of_ble_eq_true rfl, Nat.le_of_ble_eq_true rfl⟩) hK hZ hA hP hD hS [0, 1, 2, 3, 4, 5, 6, 7, 8, 9] [] rfl rfl (by decide) (by decide) (by decide) 0 4 rfl rfl rfl hl.1 (Nat.le_of_ble_eq_true rfl) ⟨Nat.le_of_ble_eq_true rfl, Nat.le_of_ble_eq_true rfl⟩ rfl dX5_turn_1 (fun u9 H locs hw9 hP hD hS => ?_)
  have hP : va_P G.1 CL (MW G mh md nr nc pL pG pB pk (gZ (nr, nc, pL, pG, pB, pk)) hi sv ch hs inp ty er wy wd rf lt ln th tr mv fo sp wr td) _ := hP
  have hD : va_D A (MW G mh md nr nc pL pG pB pk (gZ (nr, nc, pL, pG, pB, pk)) hi sv ch hs inp ty er wy wd rf lt ln th tr mv fo sp wr td) := hD
  refine lv_aload_n hx hb dX5_turn_4 rfl (lv_at hl 0 rfl) ?_
  refine lv_aload_n hx hb dX5_turn_5 rfl (lv_at hl 0 rfl) ?_
  refine lv_iload_n hx hb dX5_turn_6 rfl (lv_at hl 1 rfl) ?_
  refine callVi (As := [.int ba]) (rest := [.ref mh]) (wc := (MW G mh md nr nc pL pG pB pk (gZ (nr, nc, pL, pG, pB, pk)) hi sv ch hs inp ty er wy wd rf lt ln th tr mv fo sp wr td)) (wr := ([] : va_W)) ⟨hx, hb, hml, hown, hts⟩ (m_X5_turnsOne l G mh md nr nc pL pG pB pk (gZ (nr, nc, pL, pG, pB, pk)) hi sv ch hs inp ty er wy wd rf lt ln th tr mv fo sp wr td ba (by first | assumption | omega) (by first | assumption | omega) (by first | assumption | omega)) (cwV 1 hts (lw_V q1867 q1869 qs46 q105 q1870) rfl rfl rfl (by decide +kernel) ⟨Nat.le_of_ble_eq_true rfl, Nat.le_of_ble_eq_true rfl⟩) hK hZ hA hP hD hS [0, 1, 2, 3, 4, 5, 6, 7, 8, 9] [] rfl rfl (by decide) (by decide) (by decide) 0 4 rfl rfl rfl hl.1 (Nat.le_of_ble_eq_true rfl) ⟨Nat.le_of_ble_eq_true rfl, Nat.le_of_ble_eq_true rfl⟩ rfl dX5_turn_7 (fun r9 u9 H locs hw9 hP hD hS => ?_)
  obtain ⟨tr1_2, mv1_2⟩ := u9
  subst hw9
  have hP : va_P G.1 CL (MW G mh md ((oTurn (nr, nc, pL, pG, pB, pk) ba).2.1.1) ((oTurn (nr, nc, pL, pG, pB, pk) ba).2.1.2.1) ((oTurn (nr, nc, pL, pG, pB, pk) ba).2.1.2.2.1) ((oTurn (nr, nc, pL, pG, pB, pk) ba).2.1.2.2.2.1) ((oTurn (nr, nc, pL, pG, pB, pk) ba).2.1.2.2.2.2.1) ((oTurn (nr, nc, pL, pG, pB, pk) ba).2.1.2.2.2.2.2) (gZ (nr, nc, pL, pG, pB, pk)) hi sv ch hs inp ty er (oWy (oTurn (nr, nc, pL, pG, pB, pk) ba) wy) (oWd (oTurn (nr, nc, pL, pG, pB, pk) ba) wd) (oRf (oTurn (nr, nc, pL, pG, pB, pk) ba) rf) lt ln (nI (oTurn (nr, nc, pL, pG, pB, pk) ba).1) tr1_2 mv1_2 fo sp wr td) _ := hP
  have hD : va_D A (MW G mh md ((oTurn (nr, nc, pL, pG, pB, pk) ba).2.1.1) ((oTurn (nr, nc, pL, pG, pB, pk) ba).2.1.2.1) ((oTurn (nr, nc, pL, pG, pB, pk) ba).2.1.2.2.1) ((oTurn (nr, nc, pL, pG, pB, pk) ba).2.1.2.2.2.1) ((oTurn (nr, nc, pL, pG, pB, pk) ba).2.1.2.2.2.2.1) ((oTurn (nr, nc, pL, pG, pB, pk) ba).2.1.2.2.2.2.2) (gZ (nr, nc, pL, pG, pB, pk)) hi sv ch hs inp ty er (oWy (oTurn (nr, nc, pL, pG, pB, pk) ba) wy) (oWd (oTurn (nr, nc, pL, pG, pB, pk) ba) wd) (oRf (oTurn (nr, nc, pL, pG, pB, pk) ba) rf) lt ln (nI (oTurn (nr, nc, pL, pG, pB, pk) ba).1) tr1_2 mv1_2 fo sp wr td) := hD
  by_cases hk9 : (oTurn (nr, nc, pL, pG, pB, pk) ba).1 = 0
  · skip
    refine callVi (As := [.int ((oTurn (nr, nc, pL, pG, pB, pk) ba).2.2.1)]) (rest := []) (wc := (MW G mh md ((oTurn (nr, nc, pL, pG, pB, pk) ba).2.1.1) ((oTurn (nr, nc, pL, pG, pB, pk) ba).2.1.2.1) ((oTurn (nr, nc, pL, pG, pB, pk) ba).2.1.2.2.1) ((oTurn (nr, nc, pL, pG, pB, pk) ba).2.1.2.2.2.1) ((oTurn (nr, nc, pL, pG, pB, pk) ba).2.1.2.2.2.2.1) ((oTurn (nr, nc, pL, pG, pB, pk) ba).2.1.2.2.2.2.2) (gZ (nr, nc, pL, pG, pB, pk)) hi sv ch hs inp ty er (oWy (oTurn (nr, nc, pL, pG, pB, pk) ba) wy) (oWd (oTurn (nr, nc, pL, pG, pB, pk) ba) wd) (oRf (oTurn (nr, nc, pL, pG, pB, pk) ba) rf) lt ln (nI (oTurn (nr, nc, pL, pG, pB, pk) ba).1) tr1_2 mv1_2 fo sp wr td)) (wr := ([] : va_W)) ⟨hx, hb, hml, hown, hts⟩ (m_X5_kept__0 l G mh md ((oTurn (nr, nc, pL, pG, pB, pk) ba).2.1.1) ((oTurn (nr, nc, pL, pG, pB, pk) ba).2.1.2.1) ((oTurn (nr, nc, pL, pG, pB, pk) ba).2.1.2.2.1) ((oTurn (nr, nc, pL, pG, pB, pk) ba).2.1.2.2.2.1) ((oTurn (nr, nc, pL, pG, pB, pk) ba).2.1.2.2.2.2.1) ((oTurn (nr, nc, pL, pG, pB, pk) ba).2.1.2.2.2.2.2) hi sv ch hs inp ty er (oWy (oTurn (nr, nc, pL, pG, pB, pk) ba) wy) (oWd (oTurn (nr, nc, pL, pG, pB, pk) ba) wd) (oRf (oTurn (nr, nc, pL, pG, pB, pk) ba) rf) lt ln (nI (oTurn (nr, nc, pL, pG, pB, pk) ba).1) tr1_2 mv1_2 fo sp wr td ((oTurn (nr, nc, pL, pG, pB, pk) ba).2.2.1) (nr, nc, pL, pG, pB, pk) zl (by rw [hk9]; exact nI_0) hH) (cwV 1 hts (lw_V q1825 q1827 qs40 q105 q1828) rfl rfl rfl (by decide +kernel) ⟨Nat.le_of_ble_eq_true rfl, Nat.le_of_ble_eq_true rfl⟩) hK hZ hA hP hD hS [0, 1, 2, 3, 4, 5, 6, 7, 8, 9] [] rfl rfl (by decide) (by decide) (by decide) 0 4 rfl rfl rfl hl.1 (Nat.le_of_ble_eq_true rfl) ⟨Nat.le_of_ble_eq_true rfl, Nat.le_of_ble_eq_true rfl⟩ rfl dX5_turn_10 (fun r9 u9 H locs hw9 hP hD hS => ?_)
    obtain ⟨hi1_3, ch1_3⟩ := u9
    obtain ⟨hr9, hw10⟩ := hw9
    subst hr9
    have hw10 : HistA hi1_3 (pushH zl (nr, nc, pL, pG, pB, pk)) ch1_3 := hw10
    have hP : va_P G.1 CL (MW G mh md ((oTurn (nr, nc, pL, pG, pB, pk) ba).2.1.1) ((oTurn (nr, nc, pL, pG, pB, pk) ba).2.1.2.1) ((oTurn (nr, nc, pL, pG, pB, pk) ba).2.1.2.2.1) ((oTurn (nr, nc, pL, pG, pB, pk) ba).2.1.2.2.2.1) ((oTurn (nr, nc, pL, pG, pB, pk) ba).2.1.2.2.2.2.1) ((oTurn (nr, nc, pL, pG, pB, pk) ba).2.1.2.2.2.2.2) (gZ (nr, nc, pL, pG, pB, pk)) hi1_3 sv ch1_3 hs inp ty er (oWy (oTurn (nr, nc, pL, pG, pB, pk) ba) wy) (oWd (oTurn (nr, nc, pL, pG, pB, pk) ba) wd) (oRf (oTurn (nr, nc, pL, pG, pB, pk) ba) rf) lt ln (nI (oTurn (nr, nc, pL, pG, pB, pk) ba).1) tr1_2 mv1_2 fo sp wr td) _ := hP
    have hD : va_D A (MW G mh md ((oTurn (nr, nc, pL, pG, pB, pk) ba).2.1.1) ((oTurn (nr, nc, pL, pG, pB, pk) ba).2.1.2.1) ((oTurn (nr, nc, pL, pG, pB, pk) ba).2.1.2.2.1) ((oTurn (nr, nc, pL, pG, pB, pk) ba).2.1.2.2.2.1) ((oTurn (nr, nc, pL, pG, pB, pk) ba).2.1.2.2.2.2.1) ((oTurn (nr, nc, pL, pG, pB, pk) ba).2.1.2.2.2.2.2) (gZ (nr, nc, pL, pG, pB, pk)) hi1_3 sv ch1_3 hs inp ty er (oWy (oTurn (nr, nc, pL, pG, pB, pk) ba) wy) (oWd (oTurn (nr, nc, pL, pG, pB, pk) ba) wd) (oRf (oTurn (nr, nc, pL, pG, pB, pk) ba) rf) lt ln (nI (oTurn (nr, nc, pL, pG, pB, pk) ba).1) tr1_2 mv1_2 fo sp wr td) := hD
    subst hQ
    exact ret_i hx hb hr hlk (⟨hi1_3, ch1_3, tr1_2, mv1_2⟩) ⟨rfl, (by rw [oH, if_pos hk9]; exact hw10)⟩ hP hD hS rfl dX5_turn_13
  · skip
    refine callVi (As := [.int ((oTurn (nr, nc, pL, pG, pB, pk) ba).2.2.1)]) (rest := []) (wc := (MW G mh md ((oTurn (nr, nc, pL, pG, pB, pk) ba).2.1.1) ((oTurn (nr, nc, pL, pG, pB, pk) ba).2.1.2.1) ((oTurn (nr, nc, pL, pG, pB, pk) ba).2.1.2.2.1) ((oTurn (nr, nc, pL, pG, pB, pk) ba).2.1.2.2.2.1) ((oTurn (nr, nc, pL, pG, pB, pk) ba).2.1.2.2.2.2.1) ((oTurn (nr, nc, pL, pG, pB, pk) ba).2.1.2.2.2.2.2) (gZ (nr, nc, pL, pG, pB, pk)) hi sv ch hs inp ty er (oWy (oTurn (nr, nc, pL, pG, pB, pk) ba) wy) (oWd (oTurn (nr, nc, pL, pG, pB, pk) ba) wd) (oRf (oTurn (nr, nc, pL, pG, pB, pk) ba) rf) lt ln (nI (oTurn (nr, nc, pL, pG, pB, pk) ba).1) tr1_2 mv1_2 fo sp wr td)) (wr := ([] : va_W)) ⟨hx, hb, hml, hown, hts⟩ (m_X5_kept__t l G mh md ((oTurn (nr, nc, pL, pG, pB, pk) ba).2.1.1) ((oTurn (nr, nc, pL, pG, pB, pk) ba).2.1.2.1) ((oTurn (nr, nc, pL, pG, pB, pk) ba).2.1.2.2.1) ((oTurn (nr, nc, pL, pG, pB, pk) ba).2.1.2.2.2.1) ((oTurn (nr, nc, pL, pG, pB, pk) ba).2.1.2.2.2.2.1) ((oTurn (nr, nc, pL, pG, pB, pk) ba).2.1.2.2.2.2.2) hi sv ch hs inp ty er (oWy (oTurn (nr, nc, pL, pG, pB, pk) ba) wy) (oWd (oTurn (nr, nc, pL, pG, pB, pk) ba) wd) (oRf (oTurn (nr, nc, pL, pG, pB, pk) ba) rf) lt ln (nI (oTurn (nr, nc, pL, pG, pB, pk) ba).1) tr1_2 mv1_2 fo sp wr td ((oTurn (nr, nc, pL, pG, pB, pk) ba).2.2.1) (nr, nc, pL, pG, pB, pk) ((ok_turn (nr, nc, pL, pG, pB, pk) ba).th hk9)) (cwV 1 hts (lw_V q1825 q1827 qs40 q105 q1828) rfl rfl rfl (by decide +kernel) ⟨Nat.le_of_ble_eq_true rfl, Nat.le_of_ble_eq_true rfl⟩) hK hZ hA hP hD hS [0, 1, 2, 3, 4, 5, 6, 7, 8, 9] [] rfl rfl (by decide) (by decide) (by decide) 0 4 rfl rfl rfl hl.1 (Nat.le_of_ble_eq_true rfl) ⟨Nat.le_of_ble_eq_true rfl, Nat.le_of_ble_eq_true rfl⟩ rfl dX5_turn_10 (fun r9 u9 H locs hw9 hP hD hS => ?_)
    subst hw9
    have hP : va_P G.1 CL (MW G mh md ((nr, nc, pL, pG, pB, pk).1) ((nr, nc, pL, pG, pB, pk).2.1) ((nr, nc, pL, pG, pB, pk).2.2.1) ((nr, nc, pL, pG, pB, pk).2.2.2.1) ((nr, nc, pL, pG, pB, pk).2.2.2.2.1) ((nr, nc, pL, pG, pB, pk).2.2.2.2.2) (gZ (nr, nc, pL, pG, pB, pk)) hi sv ch hs inp ty er (oWy (oTurn (nr, nc, pL, pG, pB, pk) ba) wy) (oWd (oTurn (nr, nc, pL, pG, pB, pk) ba) wd) (oRf (oTurn (nr, nc, pL, pG, pB, pk) ba) rf) lt ln (nI (oTurn (nr, nc, pL, pG, pB, pk) ba).1) tr1_2 mv1_2 fo sp wr td) _ := hP
    have hD : va_D A (MW G mh md ((nr, nc, pL, pG, pB, pk).1) ((nr, nc, pL, pG, pB, pk).2.1) ((nr, nc, pL, pG, pB, pk).2.2.1) ((nr, nc, pL, pG, pB, pk).2.2.2.1) ((nr, nc, pL, pG, pB, pk).2.2.2.2.1) ((nr, nc, pL, pG, pB, pk).2.2.2.2.2) (gZ (nr, nc, pL, pG, pB, pk)) hi sv ch hs inp ty er (oWy (oTurn (nr, nc, pL, pG, pB, pk) ba) wy) (oWd (oTurn (nr, nc, pL, pG, pB, pk) ba) wd) (oRf (oTurn (nr, nc, pL, pG, pB, pk) ba) rf) lt ln (nI (oTurn (nr, nc, pL, pG, pB, pk) ba).1) tr1_2 mv1_2 fo sp wr td) := hD
    have hP : va_P G.1 CL (MW G mh md nr nc pL pG pB pk (gZ (nr, nc, pL, pG, pB, pk)) hi sv ch hs inp ty er (oWy (oTurn (nr, nc, pL, pG, pB, pk) ba) wy) (oWd (oTurn (nr, nc, pL, pG, pB, pk) ba) wd) (oRf (oTurn (nr, nc, pL, pG, pB, pk) ba) rf) lt ln (nI (oTurn (nr, nc, pL, pG, pB, pk) ba).1) tr1_2 mv1_2 fo sp wr td) _ := hP
    have hD : va_D A (MW G mh md nr nc pL pG pB pk (gZ (nr, nc, pL, pG, pB, pk)) hi sv ch hs inp ty er (oWy (oTurn (nr, nc, pL, pG, pB, pk) ba) wy) (oWd (oTurn (nr, nc, pL, pG, pB, pk) ba) wd) (oRf (oTurn (nr, nc, pL, pG, pB, pk) ba) rf) lt ln (nI (oTurn (nr, nc, pL, pG, pB, pk) ba).1) tr1_2 mv1_2 fo sp wr td) := hD
    have hz9 := ((ok_turn (nr, nc, pL, pG, pB, pk) ba)).2.1 hk9
    subst hQ
    rw [hz9.1]
    exact ret_i hx hb hr hlk (⟨hi, ch, tr1_2, mv1_2⟩) ⟨hz9.2.symm, (by rw [oH, if_neg hk9]; exact hH)⟩ hP hD hS rfl dX5_turn_13
set_option maxHeartbeats 4000000 in
set_option maxRecDepth 100000 in
theorem m_X5_swap (l : Launch) (G : GG) (mh : Nat) (md : Nat → Nat) (nr : Nat) (nc : Nat) (pL : Nat → Nat) (pG : Nat → Nat) (pB : Nat → Bool) (pk : Nat → Int32) (bf : Nat → Int32) (hi : Nat → Int32) (sv : Nat → Int32) (ch : Nat) (hs : Bool) (inp : Nat → Nat) (ty : Nat) (er : Int32) (wy : Int32) (wd : Int32) (rf : Bool) (lt : Nat → Nat) (ln : Nat) (th : Int32) (tr : Nat → Nat) (mv : Nat → Nat) (fo : Int32) (sp : Nat) (wr : Bool) (td : Nat → Int32) (ba : Int32) (bb : Int32) (zl : List ZT) (hd : 2 ≤ nr ∧ nr ≤ 3 ∧ 2 ≤ nc ∧ nc ≤ 3) (hLR : ∀ q, q < nr * nc → 97 ≤ pL q ∧ pL q ≤ 108) (hKR : ∀ q, q < nr * nc → pG q = 46 ∨ (97 ≤ pG q ∧ pG q ≤ 108)) (hH : HistA hi zl ch) : MM l G yX5_swap cX5_swap 3 (some .int) ⟨4, 0, 0, 85⟩ [.ref mh, .int ba, .int bb] (MW G mh md nr nc pL pG pB pk bf hi sv ch hs inp ty er wy wd rf lt ln th tr mv fo sp wr td) (Qi_ G (fun (r : Int32) (u : (Nat → Int32) × (Nat) × (Nat → Nat)) => (r = (oSwap (nr, nc, pL, pG, pB, pk) ba bb).2.2.1) ∧ (HistA u.1 (oH (oSwap (nr, nc, pL, pG, pB, pk) ba bb) zl (nr, nc, pL, pG, pB, pk)) u.2.1)) (fun (u : (Nat → Int32) × (Nat) × (Nat → Nat)) => (MW G mh md ((oSwap (nr, nc, pL, pG, pB, pk) ba bb).2.1.1) ((oSwap (nr, nc, pL, pG, pB, pk) ba bb).2.1.2.1) ((oSwap (nr, nc, pL, pG, pB, pk) ba bb).2.1.2.2.1) ((oSwap (nr, nc, pL, pG, pB, pk) ba bb).2.1.2.2.2.1) ((oSwap (nr, nc, pL, pG, pB, pk) ba bb).2.1.2.2.2.2.1) ((oSwap (nr, nc, pL, pG, pB, pk) ba bb).2.1.2.2.2.2.2) (gZ (nr, nc, pL, pG, pB, pk)) u.1 sv u.2.1 hs inp ty er (oWy (oSwap (nr, nc, pL, pG, pB, pk) ba bb) wy) (oWd (oSwap (nr, nc, pL, pG, pB, pk) ba bb) wd) (oRf (oSwap (nr, nc, pL, pG, pB, pk) ba bb) rf) lt ln (nI (oSwap (nr, nc, pL, pG, pB, pk) ba bb).1) u.2.2 mv fo sp wr td))) := by
  refine MM.of (by decide) (Nat.le_of_ble_eq_true rfl) ?_
  intro p e s m args below meth cd A C hini hA hK hZ hP hD ls hl
  generalize hQ : MQ below ((Qi_ G (fun (r : Int32) (u : (Nat → Int32) × (Nat) × (Nat → Nat)) => (r = (oSwap (nr, nc, pL, pG, pB, pk) ba bb).2.2.1) ∧ (HistA u.1 (oH (oSwap (nr, nc, pL, pG, pB, pk) ba bb) zl (nr, nc, pL, pG, pB, pk)) u.2.1)) (fun (u : (Nat → Int32) × (Nat) × (Nat → Nat)) => (MW G mh md ((oSwap (nr, nc, pL, pG, pB, pk) ba bb).2.1.1) ((oSwap (nr, nc, pL, pG, pB, pk) ba bb).2.1.2.1) ((oSwap (nr, nc, pL, pG, pB, pk) ba bb).2.1.2.2.1) ((oSwap (nr, nc, pL, pG, pB, pk) ba bb).2.1.2.2.2.1) ((oSwap (nr, nc, pL, pG, pB, pk) ba bb).2.1.2.2.2.2.1) ((oSwap (nr, nc, pL, pG, pB, pk) ba bb).2.1.2.2.2.2.2) (gZ (nr, nc, pL, pG, pB, pk)) u.1 sv u.2.1 hs inp ty er (oWy (oSwap (nr, nc, pL, pG, pB, pk) ba bb) wy) (oWd (oSwap (nr, nc, pL, pG, pB, pk) ba bb) wd) (oRf (oSwap (nr, nc, pL, pG, pB, pk) ba bb) rf) lt ln (nI (oSwap (nr, nc, pL, pG, pB, pk) ba bb).1) u.2.2 mv fo sp wr td))) A) args s (⟨4, 0, 0, 85⟩ : Room).cells (⟨4, 0, 0, 85⟩ : Room).slots A = Q
  obtain ⟨hx, hb, hr, hts, hown, hlk, hml⟩ := C
  have hown : s.vm.findClass RX5 = some m.cls := hown
  have hS : va_S A s.heap s.heap [] := va_S.rf
  have hl : lv_has ls 3 [(0, .ref mh), (1, .int ba), (2, .int bb)] := hl
  have hmu := dm_mul hd
  refine lv_aload_n hx hb dX5_swap_0 rfl (lv_at hl 0 rfl) ?_
  refine callVv (As := []) (rest := []) (wc := (MW G mh md nr nc pL pG pB pk bf hi sv ch hs inp ty er wy wd rf lt ln th tr mv fo sp wr td)) (wr := ([] : va_W)) ⟨hx, hb, hml, hown, hts⟩ (m_X5_looksBack l G mh md nr nc pL pG pB pk bf hi sv ch hs inp ty er wy wd rf lt ln th tr mv fo sp wr td ) (cwV 0 hts (lw_V q1799 q1801 qs35 q105 q1802) rfl rfl rfl (by decide +kernel) ⟨Nat.le_of_ble_eq_true rfl, Nat.le_of_ble_eq_true rfl⟩) hK hZ hA hP hD hS [0, 1, 2, 3, 4, 5, 6, 7, 8, 9] [] rfl rfl (by decide) (by decide) (by decide) 0 4 rfl rfl rfl hl.1 (Nat.le_of_ble_eq_true rfl) ⟨Nat.le_of_ble_eq_true rfl, Nat.le_of_ble_eq_true rfl⟩ rfl dX5_swap_1 (fun u9 H locs hw9 hP hD hS => ?_)
  have hP : va_P G.1 CL (MW G mh md nr nc pL pG pB pk (gZ (nr, nc, pL, pG, pB, pk)) hi sv ch hs inp ty er wy wd rf lt ln th tr mv fo sp wr td) _ := hP
  have hD : va_D A (MW G mh md nr nc pL pG pB pk (gZ (nr, nc, pL, pG, pB, pk)) hi sv ch hs inp ty er wy wd rf lt ln th tr mv fo sp wr td) := hD
  refine lv_aload_n hx hb dX5_swap_4 rfl (lv_at hl 0 rfl) ?_
  refine lv_aload_n hx hb dX5_swap_5 rfl (lv_at hl 0 rfl) ?_
  refine lv_iload_n hx hb dX5_swap_6 rfl (lv_at hl 1 rfl) ?_
  refine lv_iload_n hx hb dX5_swap_7 rfl (lv_at hl 2 rfl) ?_
  refine callVi (As := [.int ba, .int bb]) (rest := [.ref mh]) (wc := (MW G mh md nr nc pL pG pB pk (gZ (nr, nc, pL, pG, pB, pk)) hi sv ch hs inp ty er wy wd rf lt ln th tr mv fo sp wr td)) (wr := ([] : va_W)) ⟨hx, hb, hml, hown, hts⟩ (m_X5_swaps l G mh md nr nc pL pG pB pk (gZ (nr, nc, pL, pG, pB, pk)) hi sv ch hs inp ty er wy wd rf lt ln th tr mv fo sp wr td ba bb (by first | assumption | omega) (by first | assumption | omega) (by first | assumption | omega)) (cwV 2 hts (lw_V q1919 q1921 qs58 q105 q1922) rfl rfl rfl (by decide +kernel) ⟨Nat.le_of_ble_eq_true rfl, Nat.le_of_ble_eq_true rfl⟩) hK hZ hA hP hD hS [0, 1, 2, 3, 4, 5, 6, 7, 8, 9] [] rfl rfl (by decide) (by decide) (by decide) 0 4 rfl rfl rfl hl.1 (Nat.le_of_ble_eq_true rfl) ⟨Nat.le_of_ble_eq_true rfl, Nat.le_of_ble_eq_true rfl⟩ rfl dX5_swap_8 (fun r9 u9 H locs hw9 hP hD hS => ?_)
  obtain ⟨tr1_2, e9⟩ : ∃ z, z = u9 := ⟨_, rfl⟩
  subst e9
  subst hw9
  have hP : va_P G.1 CL (MW G mh md ((oSwap (nr, nc, pL, pG, pB, pk) ba bb).2.1.1) ((oSwap (nr, nc, pL, pG, pB, pk) ba bb).2.1.2.1) ((oSwap (nr, nc, pL, pG, pB, pk) ba bb).2.1.2.2.1) ((oSwap (nr, nc, pL, pG, pB, pk) ba bb).2.1.2.2.2.1) ((oSwap (nr, nc, pL, pG, pB, pk) ba bb).2.1.2.2.2.2.1) ((oSwap (nr, nc, pL, pG, pB, pk) ba bb).2.1.2.2.2.2.2) (gZ (nr, nc, pL, pG, pB, pk)) hi sv ch hs inp ty er (oWy (oSwap (nr, nc, pL, pG, pB, pk) ba bb) wy) (oWd (oSwap (nr, nc, pL, pG, pB, pk) ba bb) wd) (oRf (oSwap (nr, nc, pL, pG, pB, pk) ba bb) rf) lt ln (nI (oSwap (nr, nc, pL, pG, pB, pk) ba bb).1) tr1_2 mv fo sp wr td) _ := hP
  have hD : va_D A (MW G mh md ((oSwap (nr, nc, pL, pG, pB, pk) ba bb).2.1.1) ((oSwap (nr, nc, pL, pG, pB, pk) ba bb).2.1.2.1) ((oSwap (nr, nc, pL, pG, pB, pk) ba bb).2.1.2.2.1) ((oSwap (nr, nc, pL, pG, pB, pk) ba bb).2.1.2.2.2.1) ((oSwap (nr, nc, pL, pG, pB, pk) ba bb).2.1.2.2.2.2.1) ((oSwap (nr, nc, pL, pG, pB, pk) ba bb).2.1.2.2.2.2.2) (gZ (nr, nc, pL, pG, pB, pk)) hi sv ch hs inp ty er (oWy (oSwap (nr, nc, pL, pG, pB, pk) ba bb) wy) (oWd (oSwap (nr, nc, pL, pG, pB, pk) ba bb) wd) (oRf (oSwap (nr, nc, pL, pG, pB, pk) ba bb) rf) lt ln (nI (oSwap (nr, nc, pL, pG, pB, pk) ba bb).1) tr1_2 mv fo sp wr td) := hD
  by_cases hk9 : (oSwap (nr, nc, pL, pG, pB, pk) ba bb).1 = 0
  · skip
    refine callVi (As := [.int ((oSwap (nr, nc, pL, pG, pB, pk) ba bb).2.2.1)]) (rest := []) (wc := (MW G mh md ((oSwap (nr, nc, pL, pG, pB, pk) ba bb).2.1.1) ((oSwap (nr, nc, pL, pG, pB, pk) ba bb).2.1.2.1) ((oSwap (nr, nc, pL, pG, pB, pk) ba bb).2.1.2.2.1) ((oSwap (nr, nc, pL, pG, pB, pk) ba bb).2.1.2.2.2.1) ((oSwap (nr, nc, pL, pG, pB, pk) ba bb).2.1.2.2.2.2.1) ((oSwap (nr, nc, pL, pG, pB, pk) ba bb).2.1.2.2.2.2.2) (gZ (nr, nc, pL, pG, pB, pk)) hi sv ch hs inp ty er (oWy (oSwap (nr, nc, pL, pG, pB, pk) ba bb) wy) (oWd (oSwap (nr, nc, pL, pG, pB, pk) ba bb) wd) (oRf (oSwap (nr, nc, pL, pG, pB, pk) ba bb) rf) lt ln (nI (oSwap (nr, nc, pL, pG, pB, pk) ba bb).1) tr1_2 mv fo sp wr td)) (wr := ([] : va_W)) ⟨hx, hb, hml, hown, hts⟩ (m_X5_kept__0 l G mh md ((oSwap (nr, nc, pL, pG, pB, pk) ba bb).2.1.1) ((oSwap (nr, nc, pL, pG, pB, pk) ba bb).2.1.2.1) ((oSwap (nr, nc, pL, pG, pB, pk) ba bb).2.1.2.2.1) ((oSwap (nr, nc, pL, pG, pB, pk) ba bb).2.1.2.2.2.1) ((oSwap (nr, nc, pL, pG, pB, pk) ba bb).2.1.2.2.2.2.1) ((oSwap (nr, nc, pL, pG, pB, pk) ba bb).2.1.2.2.2.2.2) hi sv ch hs inp ty er (oWy (oSwap (nr, nc, pL, pG, pB, pk) ba bb) wy) (oWd (oSwap (nr, nc, pL, pG, pB, pk) ba bb) wd) (oRf (oSwap (nr, nc, pL, pG, pB, pk) ba bb) rf) lt ln (nI (oSwap (nr, nc, pL, pG, pB, pk) ba bb).1) tr1_2 mv fo sp wr td ((oSwap (nr, nc, pL, pG, pB, pk) ba bb).2.2.1) (nr, nc, pL, pG, pB, pk) zl (by rw [hk9]; exact nI_0) hH) (cwV 1 hts (lw_V q1825 q1827 qs40 q105 q1828) rfl rfl rfl (by decide +kernel) ⟨Nat.le_of_ble_eq_true rfl, Nat.le_of_ble_eq_true rfl⟩) hK hZ hA hP hD hS [0, 1, 2, 3, 4, 5, 6, 7, 8, 9] [] rfl rfl (by decide) (by decide) (by decide) 0 4 rfl rfl rfl hl.1 (Nat.le_of_ble_eq_true rfl) ⟨Nat.le_of_ble_eq_true rfl, Nat.le_of_ble_eq_true rfl⟩ rfl dX5_swap_11 (fun r9 u9 H locs hw9 hP hD hS => ?_)
    obtain ⟨hi1_3, ch1_3⟩ := u9
    obtain ⟨hr9, hw11⟩ := hw9
    subst hr9
    have hw11 : HistA hi1_3 (pushH zl (nr, nc, pL, pG, pB, pk)) ch1_3 := hw11
    have hP : va_P G.1 CL (MW G mh md ((oSwap (nr, nc, pL, pG, pB, pk) ba bb).2.1.1) ((oSwap (nr, nc, pL, pG, pB, pk) ba bb).2.1.2.1) ((oSwap (nr, nc, pL, pG, pB, pk) ba bb).2.1.2.2.1) ((oSwap (nr, nc, pL, pG, pB, pk) ba bb).2.1.2.2.2.1) ((oSwap (nr, nc, pL, pG, pB, pk) ba bb).2.1.2.2.2.2.1) ((oSwap (nr, nc, pL, pG, pB, pk) ba bb).2.1.2.2.2.2.2) (gZ (nr, nc, pL, pG, pB, pk)) hi1_3 sv ch1_3 hs inp ty er (oWy (oSwap (nr, nc, pL, pG, pB, pk) ba bb) wy) (oWd (oSwap (nr, nc, pL, pG, pB, pk) ba bb) wd) (oRf (oSwap (nr, nc, pL, pG, pB, pk) ba bb) rf) lt ln (nI (oSwap (nr, nc, pL, pG, pB, pk) ba bb).1) tr1_2 mv fo sp wr td) _ := hP
    have hD : va_D A (MW G mh md ((oSwap (nr, nc, pL, pG, pB, pk) ba bb).2.1.1) ((oSwap (nr, nc, pL, pG, pB, pk) ba bb).2.1.2.1) ((oSwap (nr, nc, pL, pG, pB, pk) ba bb).2.1.2.2.1) ((oSwap (nr, nc, pL, pG, pB, pk) ba bb).2.1.2.2.2.1) ((oSwap (nr, nc, pL, pG, pB, pk) ba bb).2.1.2.2.2.2.1) ((oSwap (nr, nc, pL, pG, pB, pk) ba bb).2.1.2.2.2.2.2) (gZ (nr, nc, pL, pG, pB, pk)) hi1_3 sv ch1_3 hs inp ty er (oWy (oSwap (nr, nc, pL, pG, pB, pk) ba bb) wy) (oWd (oSwap (nr, nc, pL, pG, pB, pk) ba bb) wd) (oRf (oSwap (nr, nc, pL, pG, pB, pk) ba bb) rf) lt ln (nI (oSwap (nr, nc, pL, pG, pB, pk) ba bb).1) tr1_2 mv fo sp wr td) := hD
    subst hQ
    exact ret_i hx hb hr hlk (⟨hi1_3, ch1_3, tr1_2⟩) ⟨rfl, (by rw [oH, if_pos hk9]; exact hw11)⟩ hP hD hS rfl dX5_swap_14
  · skip
    refine callVi (As := [.int ((oSwap (nr, nc, pL, pG, pB, pk) ba bb).2.2.1)]) (rest := []) (wc := (MW G mh md ((oSwap (nr, nc, pL, pG, pB, pk) ba bb).2.1.1) ((oSwap (nr, nc, pL, pG, pB, pk) ba bb).2.1.2.1) ((oSwap (nr, nc, pL, pG, pB, pk) ba bb).2.1.2.2.1) ((oSwap (nr, nc, pL, pG, pB, pk) ba bb).2.1.2.2.2.1) ((oSwap (nr, nc, pL, pG, pB, pk) ba bb).2.1.2.2.2.2.1) ((oSwap (nr, nc, pL, pG, pB, pk) ba bb).2.1.2.2.2.2.2) (gZ (nr, nc, pL, pG, pB, pk)) hi sv ch hs inp ty er (oWy (oSwap (nr, nc, pL, pG, pB, pk) ba bb) wy) (oWd (oSwap (nr, nc, pL, pG, pB, pk) ba bb) wd) (oRf (oSwap (nr, nc, pL, pG, pB, pk) ba bb) rf) lt ln (nI (oSwap (nr, nc, pL, pG, pB, pk) ba bb).1) tr1_2 mv fo sp wr td)) (wr := ([] : va_W)) ⟨hx, hb, hml, hown, hts⟩ (m_X5_kept__t l G mh md ((oSwap (nr, nc, pL, pG, pB, pk) ba bb).2.1.1) ((oSwap (nr, nc, pL, pG, pB, pk) ba bb).2.1.2.1) ((oSwap (nr, nc, pL, pG, pB, pk) ba bb).2.1.2.2.1) ((oSwap (nr, nc, pL, pG, pB, pk) ba bb).2.1.2.2.2.1) ((oSwap (nr, nc, pL, pG, pB, pk) ba bb).2.1.2.2.2.2.1) ((oSwap (nr, nc, pL, pG, pB, pk) ba bb).2.1.2.2.2.2.2) hi sv ch hs inp ty er (oWy (oSwap (nr, nc, pL, pG, pB, pk) ba bb) wy) (oWd (oSwap (nr, nc, pL, pG, pB, pk) ba bb) wd) (oRf (oSwap (nr, nc, pL, pG, pB, pk) ba bb) rf) lt ln (nI (oSwap (nr, nc, pL, pG, pB, pk) ba bb).1) tr1_2 mv fo sp wr td ((oSwap (nr, nc, pL, pG, pB, pk) ba bb).2.2.1) (nr, nc, pL, pG, pB, pk) ((ok_swap (nr, nc, pL, pG, pB, pk) ba bb).th hk9)) (cwV 1 hts (lw_V q1825 q1827 qs40 q105 q1828) rfl rfl rfl (by decide +kernel) ⟨Nat.le_of_ble_eq_true rfl, Nat.le_of_ble_eq_true rfl⟩) hK hZ hA hP hD hS [0, 1, 2, 3, 4, 5, 6, 7, 8, 9] [] rfl rfl (by decide) (by decide) (by decide) 0 4 rfl rfl rfl hl.1 (Nat.le_of_ble_eq_true rfl) ⟨Nat.le_of_ble_eq_true rfl, Nat.le_of_ble_eq_true rfl⟩ rfl dX5_swap_11 (fun r9 u9 H locs hw9 hP hD hS => ?_)
    subst hw9
    have hP : va_P G.1 CL (MW G mh md ((nr, nc, pL, pG, pB, pk).1) ((nr, nc, pL, pG, pB, pk).2.1) ((nr, nc, pL, pG, pB, pk).2.2.1) ((nr, nc, pL, pG, pB, pk).2.2.2.1) ((nr, nc, pL, pG, pB, pk).2.2.2.2.1) ((nr, nc, pL, pG, pB, pk).2.2.2.2.2) (gZ (nr, nc, pL, pG, pB, pk)) hi sv ch hs inp ty er (oWy (oSwap (nr, nc, pL, pG, pB, pk) ba bb) wy) (oWd (oSwap (nr, nc, pL, pG, pB, pk) ba bb) wd) (oRf (oSwap (nr, nc, pL, pG, pB, pk) ba bb) rf) lt ln (nI (oSwap (nr, nc, pL, pG, pB, pk) ba bb).1) tr1_2 mv fo sp wr td) _ := hP
    have hD : va_D A (MW G mh md ((nr, nc, pL, pG, pB, pk).1) ((nr, nc, pL, pG, pB, pk).2.1) ((nr, nc, pL, pG, pB, pk).2.2.1) ((nr, nc, pL, pG, pB, pk).2.2.2.1) ((nr, nc, pL, pG, pB, pk).2.2.2.2.1) ((nr, nc, pL, pG, pB, pk).2.2.2.2.2) (gZ (nr, nc, pL, pG, pB, pk)) hi sv ch hs inp ty er (oWy (oSwap (nr, nc, pL, pG, pB, pk) ba bb) wy) (oWd (oSwap (nr, nc, pL, pG, pB, pk) ba bb) wd) (oRf (oSwap (nr, nc, pL, pG, pB, pk) ba bb) rf) lt ln (nI (oSwap (nr, nc, pL, pG, pB, pk) ba bb).1) tr1_2 mv fo sp wr td) := hD
    have hP : va_P G.1 CL (MW G mh md nr nc pL pG pB pk (gZ (nr, nc, pL, pG, pB, pk)) hi sv ch hs inp ty er (oWy (oSwap (nr, nc, pL, pG, pB, pk) ba bb) wy) (oWd (oSwap (nr, nc, pL, pG, pB, pk) ba bb) wd) (oRf (oSwap (nr, nc, pL, pG, pB, pk) ba bb) rf) lt ln (nI (oSwap (nr, nc, pL, pG, pB, pk) ba bb).1) tr1_2 mv fo sp wr td) _ := hP
    have hD : va_D A (MW G mh md nr nc pL pG pB pk (gZ (nr, nc, pL, pG, pB, pk)) hi sv ch hs inp ty er (oWy (oSwap (nr, nc, pL, pG, pB, pk) ba bb) wy) (oWd (oSwap (nr, nc, pL, pG, pB, pk) ba bb) wd) (oRf (oSwap (nr, nc, pL, pG, pB, pk) ba bb) rf) lt ln (nI (oSwap (nr, nc, pL, pG, pB, pk) ba bb).1) tr1_2 mv fo sp wr td) := hD
    have hz9 := ((ok_swap (nr, nc, pL, pG, pB, pk) ba bb)).2.1 hk9
    subst hQ
    rw [hz9.1]
    exact ret_i hx hb hr hlk (⟨hi, ch, tr1_2⟩) ⟨hz9.2.symm, (by rw [oH, if_neg hk9]; exact hH)⟩ hP hD hS rfl dX5_swap_14
set_option maxHeartbeats 4000000 in
set_option maxRecDepth 100000 in
theorem m_X5_bar (l : Launch) (G : GG) (mh : Nat) (md : Nat → Nat) (nr : Nat) (nc : Nat) (pL : Nat → Nat) (pG : Nat → Nat) (pB : Nat → Bool) (pk : Nat → Int32) (bf : Nat → Int32) (hi : Nat → Int32) (sv : Nat → Int32) (ch : Nat) (hs : Bool) (inp : Nat → Nat) (ty : Nat) (er : Int32) (wy : Int32) (wd : Int32) (rf : Bool) (lt : Nat → Nat) (ln : Nat) (th : Int32) (tr : Nat → Nat) (mv : Nat → Nat) (fo : Int32) (sp : Nat) (wr : Bool) (td : Nat → Int32) (ba : Int32) (zl : List ZT) (hd : 2 ≤ nr ∧ nr ≤ 3 ∧ 2 ≤ nc ∧ nc ≤ 3) (hH : HistA hi zl ch) : MM l G yX5_bar cX5_bar 2 (some .boolean) ⟨3, 0, 0, 64⟩ [.ref mh, .int ba] (MW G mh md nr nc pL pG pB pk bf hi sv ch hs inp ty er wy wd rf lt ln th tr mv fo sp wr td) (Qi_ G (fun (r : Int32) (u : (Nat → Int32) × (Nat)) => (r = bI (decide ((oBar (nr, nc, pL, pG, pB, pk) ba).2.2.1 = nI 1))) ∧ (HistA u.1 (oH (oBar (nr, nc, pL, pG, pB, pk) ba) zl (nr, nc, pL, pG, pB, pk)) u.2)) (fun (u : (Nat → Int32) × (Nat)) => (MW G mh md ((oBar (nr, nc, pL, pG, pB, pk) ba).2.1.1) ((oBar (nr, nc, pL, pG, pB, pk) ba).2.1.2.1) ((oBar (nr, nc, pL, pG, pB, pk) ba).2.1.2.2.1) ((oBar (nr, nc, pL, pG, pB, pk) ba).2.1.2.2.2.1) ((oBar (nr, nc, pL, pG, pB, pk) ba).2.1.2.2.2.2.1) ((oBar (nr, nc, pL, pG, pB, pk) ba).2.1.2.2.2.2.2) (gZ (nr, nc, pL, pG, pB, pk)) u.1 sv u.2 hs inp ty er (oWy (oBar (nr, nc, pL, pG, pB, pk) ba) wy) (oWd (oBar (nr, nc, pL, pG, pB, pk) ba) wd) (oRf (oBar (nr, nc, pL, pG, pB, pk) ba) rf) lt ln (nI (oBar (nr, nc, pL, pG, pB, pk) ba).1) tr mv fo sp wr td))) := by
  refine MM.of (by decide) (Nat.le_of_ble_eq_true rfl) ?_
  intro p e s m args below meth cd A C hini hA hK hZ hP hD ls hl
  generalize hQ : MQ below ((Qi_ G (fun (r : Int32) (u : (Nat → Int32) × (Nat)) => (r = bI (decide ((oBar (nr, nc, pL, pG, pB, pk) ba).2.2.1 = nI 1))) ∧ (HistA u.1 (oH (oBar (nr, nc, pL, pG, pB, pk) ba) zl (nr, nc, pL, pG, pB, pk)) u.2)) (fun (u : (Nat → Int32) × (Nat)) => (MW G mh md ((oBar (nr, nc, pL, pG, pB, pk) ba).2.1.1) ((oBar (nr, nc, pL, pG, pB, pk) ba).2.1.2.1) ((oBar (nr, nc, pL, pG, pB, pk) ba).2.1.2.2.1) ((oBar (nr, nc, pL, pG, pB, pk) ba).2.1.2.2.2.1) ((oBar (nr, nc, pL, pG, pB, pk) ba).2.1.2.2.2.2.1) ((oBar (nr, nc, pL, pG, pB, pk) ba).2.1.2.2.2.2.2) (gZ (nr, nc, pL, pG, pB, pk)) u.1 sv u.2 hs inp ty er (oWy (oBar (nr, nc, pL, pG, pB, pk) ba) wy) (oWd (oBar (nr, nc, pL, pG, pB, pk) ba) wd) (oRf (oBar (nr, nc, pL, pG, pB, pk) ba) rf) lt ln (nI (oBar (nr, nc, pL, pG, pB, pk) ba).1) tr mv fo sp wr td))) A) args s (⟨3, 0, 0, 64⟩ : Room).cells (⟨3, 0, 0, 64⟩ : Room).slots A = Q
  obtain ⟨hx, hb, hr, hts, hown, hlk, hml⟩ := C
  have hown : s.vm.findClass RX5 = some m.cls := hown
  have hS : va_S A s.heap s.heap [] := va_S.rf
  have hl : lv_has ls 2 [(0, .ref mh), (1, .int ba)] := hl
  have hmu := dm_mul hd
  refine lv_aload_n hx hb dX5_bar_0 rfl (lv_at hl 0 rfl) ?_
  refine callVv (As := []) (rest := []) (wc := (MW G mh md nr nc pL pG pB pk bf hi sv ch hs inp ty er wy wd rf lt ln th tr mv fo sp wr td)) (wr := ([] : va_W)) ⟨hx, hb, hml, hown, hts⟩ (m_X5_looksBack l G mh md nr nc pL pG pB pk bf hi sv ch hs inp ty er wy wd rf lt ln th tr mv fo sp wr td ) (cwV 0 hts (lw_V q1799 q1801 qs35 q105 q1802) rfl rfl rfl (by decide +kernel) ⟨Nat.le_of_ble_eq_true rfl, Nat.le_of_ble_eq_true rfl⟩) hK hZ hA hP hD hS [0, 1, 2, 3, 4, 5, 6, 7, 8, 9] [] rfl rfl (by decide) (by decide) (by decide) 0 4 rfl rfl rfl hl.1 (Nat.le_of_ble_eq_true rfl) ⟨Nat.le_of_ble_eq_true rfl, Nat.le_of_ble_eq_true rfl⟩ rfl dX5_bar_1 (fun u9 H locs hw9 hP hD hS => ?_)
  have hP : va_P G.1 CL (MW G mh md nr nc pL pG pB pk (gZ (nr, nc, pL, pG, pB, pk)) hi sv ch hs inp ty er wy wd rf lt ln th tr mv fo sp wr td) _ := hP
  have hD : va_D A (MW G mh md nr nc pL pG pB pk (gZ (nr, nc, pL, pG, pB, pk)) hi sv ch hs inp ty er wy wd rf lt ln th tr mv fo sp wr td) := hD
  refine lv_aload_n hx hb dX5_bar_4 rfl (lv_at hl 0 rfl) ?_
  refine lv_aload_n hx hb dX5_bar_5 rfl (lv_at hl 0 rfl) ?_
  refine lv_iload_n hx hb dX5_bar_6 rfl (lv_at hl 1 rfl) ?_
  refine callVi (As := [.int ba]) (rest := [.ref mh]) (wc := (MW G mh md nr nc pL pG pB pk (gZ (nr, nc, pL, pG, pB, pk)) hi sv ch hs inp ty er wy wd rf lt ln th tr mv fo sp wr td)) (wr := ([] : va_W)) ⟨hx, hb, hml, hown, hts⟩ (m_X5_bars l G mh md nr nc pL pG pB pk (gZ (nr, nc, pL, pG, pB, pk)) hi sv ch hs inp ty er wy wd rf lt ln th tr mv fo sp wr td ba (by first | assumption | omega)) (cwV 1 hts (lw_V q1927 q1929 qs59 q105 q1930) rfl rfl rfl (by decide +kernel) ⟨Nat.le_of_ble_eq_true rfl, Nat.le_of_ble_eq_true rfl⟩) hK hZ hA hP hD hS [0, 1, 2, 3, 4, 5, 6, 7, 8, 9] [] rfl rfl (by decide) (by decide) (by decide) 0 4 rfl rfl rfl hl.1 (Nat.le_of_ble_eq_true rfl) ⟨Nat.le_of_ble_eq_true rfl, Nat.le_of_ble_eq_true rfl⟩ rfl dX5_bar_7 (fun r9 u9 H locs hw9 hP hD hS => ?_)
  subst hw9
  have hP : va_P G.1 CL (MW G mh md ((oBar (nr, nc, pL, pG, pB, pk) ba).2.1.1) ((oBar (nr, nc, pL, pG, pB, pk) ba).2.1.2.1) ((oBar (nr, nc, pL, pG, pB, pk) ba).2.1.2.2.1) ((oBar (nr, nc, pL, pG, pB, pk) ba).2.1.2.2.2.1) ((oBar (nr, nc, pL, pG, pB, pk) ba).2.1.2.2.2.2.1) ((oBar (nr, nc, pL, pG, pB, pk) ba).2.1.2.2.2.2.2) (gZ (nr, nc, pL, pG, pB, pk)) hi sv ch hs inp ty er (oWy (oBar (nr, nc, pL, pG, pB, pk) ba) wy) (oWd (oBar (nr, nc, pL, pG, pB, pk) ba) wd) (oRf (oBar (nr, nc, pL, pG, pB, pk) ba) rf) lt ln (nI (oBar (nr, nc, pL, pG, pB, pk) ba).1) tr mv fo sp wr td) _ := hP
  have hD : va_D A (MW G mh md ((oBar (nr, nc, pL, pG, pB, pk) ba).2.1.1) ((oBar (nr, nc, pL, pG, pB, pk) ba).2.1.2.1) ((oBar (nr, nc, pL, pG, pB, pk) ba).2.1.2.2.1) ((oBar (nr, nc, pL, pG, pB, pk) ba).2.1.2.2.2.1) ((oBar (nr, nc, pL, pG, pB, pk) ba).2.1.2.2.2.2.1) ((oBar (nr, nc, pL, pG, pB, pk) ba).2.1.2.2.2.2.2) (gZ (nr, nc, pL, pG, pB, pk)) hi sv ch hs inp ty er (oWy (oBar (nr, nc, pL, pG, pB, pk) ba) wy) (oWd (oBar (nr, nc, pL, pG, pB, pk) ba) wd) (oRf (oBar (nr, nc, pL, pG, pB, pk) ba) rf) lt ln (nI (oBar (nr, nc, pL, pG, pB, pk) ba).1) tr mv fo sp wr td) := hD
  by_cases hk9 : (oBar (nr, nc, pL, pG, pB, pk) ba).1 = 0
  · skip
    refine callVi (As := [.int ((oBar (nr, nc, pL, pG, pB, pk) ba).2.2.1)]) (rest := []) (wc := (MW G mh md ((oBar (nr, nc, pL, pG, pB, pk) ba).2.1.1) ((oBar (nr, nc, pL, pG, pB, pk) ba).2.1.2.1) ((oBar (nr, nc, pL, pG, pB, pk) ba).2.1.2.2.1) ((oBar (nr, nc, pL, pG, pB, pk) ba).2.1.2.2.2.1) ((oBar (nr, nc, pL, pG, pB, pk) ba).2.1.2.2.2.2.1) ((oBar (nr, nc, pL, pG, pB, pk) ba).2.1.2.2.2.2.2) (gZ (nr, nc, pL, pG, pB, pk)) hi sv ch hs inp ty er (oWy (oBar (nr, nc, pL, pG, pB, pk) ba) wy) (oWd (oBar (nr, nc, pL, pG, pB, pk) ba) wd) (oRf (oBar (nr, nc, pL, pG, pB, pk) ba) rf) lt ln (nI (oBar (nr, nc, pL, pG, pB, pk) ba).1) tr mv fo sp wr td)) (wr := ([] : va_W)) ⟨hx, hb, hml, hown, hts⟩ (m_X5_kept__0 l G mh md ((oBar (nr, nc, pL, pG, pB, pk) ba).2.1.1) ((oBar (nr, nc, pL, pG, pB, pk) ba).2.1.2.1) ((oBar (nr, nc, pL, pG, pB, pk) ba).2.1.2.2.1) ((oBar (nr, nc, pL, pG, pB, pk) ba).2.1.2.2.2.1) ((oBar (nr, nc, pL, pG, pB, pk) ba).2.1.2.2.2.2.1) ((oBar (nr, nc, pL, pG, pB, pk) ba).2.1.2.2.2.2.2) hi sv ch hs inp ty er (oWy (oBar (nr, nc, pL, pG, pB, pk) ba) wy) (oWd (oBar (nr, nc, pL, pG, pB, pk) ba) wd) (oRf (oBar (nr, nc, pL, pG, pB, pk) ba) rf) lt ln (nI (oBar (nr, nc, pL, pG, pB, pk) ba).1) tr mv fo sp wr td ((oBar (nr, nc, pL, pG, pB, pk) ba).2.2.1) (nr, nc, pL, pG, pB, pk) zl (by rw [hk9]; exact nI_0) hH) (cwV 1 hts (lw_V q1825 q1827 qs40 q105 q1828) rfl rfl rfl (by decide +kernel) ⟨Nat.le_of_ble_eq_true rfl, Nat.le_of_ble_eq_true rfl⟩) hK hZ hA hP hD hS [0, 1, 2, 3, 4, 5, 6, 7, 8, 9] [] rfl rfl (by decide) (by decide) (by decide) 0 4 rfl rfl rfl hl.1 (Nat.le_of_ble_eq_true rfl) ⟨Nat.le_of_ble_eq_true rfl, Nat.le_of_ble_eq_true rfl⟩ rfl dX5_bar_10 (fun r9 u9 H locs hw9 hP hD hS => ?_)
    obtain ⟨hi1_3, ch1_3⟩ := u9
    obtain ⟨hr9, hw10⟩ := hw9
    subst hr9
    have hw10 : HistA hi1_3 (pushH zl (nr, nc, pL, pG, pB, pk)) ch1_3 := hw10
    have hP : va_P G.1 CL (MW G mh md ((oBar (nr, nc, pL, pG, pB, pk) ba).2.1.1) ((oBar (nr, nc, pL, pG, pB, pk) ba).2.1.2.1) ((oBar (nr, nc, pL, pG, pB, pk) ba).2.1.2.2.1) ((oBar (nr, nc, pL, pG, pB, pk) ba).2.1.2.2.2.1) ((oBar (nr, nc, pL, pG, pB, pk) ba).2.1.2.2.2.2.1) ((oBar (nr, nc, pL, pG, pB, pk) ba).2.1.2.2.2.2.2) (gZ (nr, nc, pL, pG, pB, pk)) hi1_3 sv ch1_3 hs inp ty er (oWy (oBar (nr, nc, pL, pG, pB, pk) ba) wy) (oWd (oBar (nr, nc, pL, pG, pB, pk) ba) wd) (oRf (oBar (nr, nc, pL, pG, pB, pk) ba) rf) lt ln (nI (oBar (nr, nc, pL, pG, pB, pk) ba).1) tr mv fo sp wr td) _ := hP
    have hD : va_D A (MW G mh md ((oBar (nr, nc, pL, pG, pB, pk) ba).2.1.1) ((oBar (nr, nc, pL, pG, pB, pk) ba).2.1.2.1) ((oBar (nr, nc, pL, pG, pB, pk) ba).2.1.2.2.1) ((oBar (nr, nc, pL, pG, pB, pk) ba).2.1.2.2.2.1) ((oBar (nr, nc, pL, pG, pB, pk) ba).2.1.2.2.2.2.1) ((oBar (nr, nc, pL, pG, pB, pk) ba).2.1.2.2.2.2.2) (gZ (nr, nc, pL, pG, pB, pk)) hi1_3 sv ch1_3 hs inp ty er (oWy (oBar (nr, nc, pL, pG, pB, pk) ba) wy) (oWd (oBar (nr, nc, pL, pG, pB, pk) ba) wd) (oRf (oBar (nr, nc, pL, pG, pB, pk) ba) rf) lt ln (nI (oBar (nr, nc, pL, pG, pB, pk) ba).1) tr mv fo sp wr td) := hD
    refine lv_iconst (v := nI 1) hx hb dX5_bar_13 (by decide) ?_
    refine lv_icmp_ne (tgt := 21) hx hb dX5_bar_14 (by decide) (fun c14 => ?_) (fun c14 => ?_)
    · skip
      refine lv_iconst (v := nI 0) hx hb dX5_bar_21 (by decide) ?_
      subst hQ
      exact ret_i hx hb hr hlk (⟨hi1_3, ch1_3⟩) ⟨(bI_d0 (by first | exact c14 | (rw [hz9.2]; decide))), (by rw [oH, if_pos hk9]; exact hw10)⟩ hP hD hS rfl dX5_bar_22
    · skip
      refine lv_iconst (v := nI 1) hx hb dX5_bar_17 (by decide) ?_
      refine lv_goto (tgt := 22) hx hb dX5_bar_18 (by decide) ?_
      subst hQ
      exact ret_i hx hb hr hlk (⟨hi1_3, ch1_3⟩) ⟨(bI_d1 c14), (by rw [oH, if_pos hk9]; exact hw10)⟩ hP hD hS rfl dX5_bar_22
  · skip
    refine callVi (As := [.int ((oBar (nr, nc, pL, pG, pB, pk) ba).2.2.1)]) (rest := []) (wc := (MW G mh md ((oBar (nr, nc, pL, pG, pB, pk) ba).2.1.1) ((oBar (nr, nc, pL, pG, pB, pk) ba).2.1.2.1) ((oBar (nr, nc, pL, pG, pB, pk) ba).2.1.2.2.1) ((oBar (nr, nc, pL, pG, pB, pk) ba).2.1.2.2.2.1) ((oBar (nr, nc, pL, pG, pB, pk) ba).2.1.2.2.2.2.1) ((oBar (nr, nc, pL, pG, pB, pk) ba).2.1.2.2.2.2.2) (gZ (nr, nc, pL, pG, pB, pk)) hi sv ch hs inp ty er (oWy (oBar (nr, nc, pL, pG, pB, pk) ba) wy) (oWd (oBar (nr, nc, pL, pG, pB, pk) ba) wd) (oRf (oBar (nr, nc, pL, pG, pB, pk) ba) rf) lt ln (nI (oBar (nr, nc, pL, pG, pB, pk) ba).1) tr mv fo sp wr td)) (wr := ([] : va_W)) ⟨hx, hb, hml, hown, hts⟩ (m_X5_kept__t l G mh md ((oBar (nr, nc, pL, pG, pB, pk) ba).2.1.1) ((oBar (nr, nc, pL, pG, pB, pk) ba).2.1.2.1) ((oBar (nr, nc, pL, pG, pB, pk) ba).2.1.2.2.1) ((oBar (nr, nc, pL, pG, pB, pk) ba).2.1.2.2.2.1) ((oBar (nr, nc, pL, pG, pB, pk) ba).2.1.2.2.2.2.1) ((oBar (nr, nc, pL, pG, pB, pk) ba).2.1.2.2.2.2.2) hi sv ch hs inp ty er (oWy (oBar (nr, nc, pL, pG, pB, pk) ba) wy) (oWd (oBar (nr, nc, pL, pG, pB, pk) ba) wd) (oRf (oBar (nr, nc, pL, pG, pB, pk) ba) rf) lt ln (nI (oBar (nr, nc, pL, pG, pB, pk) ba).1) tr mv fo sp wr td ((oBar (nr, nc, pL, pG, pB, pk) ba).2.2.1) (nr, nc, pL, pG, pB, pk) ((ok_bar (nr, nc, pL, pG, pB, pk) ba).th hk9)) (cwV 1 hts (lw_V q1825 q1827 qs40 q105 q1828) rfl rfl rfl (by decide +kernel) ⟨Nat.le_of_ble_eq_true rfl, Nat.le_of_ble_eq_true rfl⟩) hK hZ hA hP hD hS [0, 1, 2, 3, 4, 5, 6, 7, 8, 9] [] rfl rfl (by decide) (by decide) (by decide) 0 4 rfl rfl rfl hl.1 (Nat.le_of_ble_eq_true rfl) ⟨Nat.le_of_ble_eq_true rfl, Nat.le_of_ble_eq_true rfl⟩ rfl dX5_bar_10 (fun r9 u9 H locs hw9 hP hD hS => ?_)
    subst hw9
    have hP : va_P G.1 CL (MW G mh md ((nr, nc, pL, pG, pB, pk).1) ((nr, nc, pL, pG, pB, pk).2.1) ((nr, nc, pL, pG, pB, pk).2.2.1) ((nr, nc, pL, pG, pB, pk).2.2.2.1) ((nr, nc, pL, pG, pB, pk).2.2.2.2.1) ((nr, nc, pL, pG, pB, pk).2.2.2.2.2) (gZ (nr, nc, pL, pG, pB, pk)) hi sv ch hs inp ty er (oWy (oBar (nr, nc, pL, pG, pB, pk) ba) wy) (oWd (oBar (nr, nc, pL, pG, pB, pk) ba) wd) (oRf (oBar (nr, nc, pL, pG, pB, pk) ba) rf) lt ln (nI (oBar (nr, nc, pL, pG, pB, pk) ba).1) tr mv fo sp wr td) _ := hP
    have hD : va_D A (MW G mh md ((nr, nc, pL, pG, pB, pk).1) ((nr, nc, pL, pG, pB, pk).2.1) ((nr, nc, pL, pG, pB, pk).2.2.1) ((nr, nc, pL, pG, pB, pk).2.2.2.1) ((nr, nc, pL, pG, pB, pk).2.2.2.2.1) ((nr, nc, pL, pG, pB, pk).2.2.2.2.2) (gZ (nr, nc, pL, pG, pB, pk)) hi sv ch hs inp ty er (oWy (oBar (nr, nc, pL, pG, pB, pk) ba) wy) (oWd (oBar (nr, nc, pL, pG, pB, pk) ba) wd) (oRf (oBar (nr, nc, pL, pG, pB, pk) ba) rf) lt ln (nI (oBar (nr, nc, pL, pG, pB, pk) ba).1) tr mv fo sp wr td) := hD
    have hP : va_P G.1 CL (MW G mh md nr nc pL pG pB pk (gZ (nr, nc, pL, pG, pB, pk)) hi sv ch hs inp ty er (oWy (oBar (nr, nc, pL, pG, pB, pk) ba) wy) (oWd (oBar (nr, nc, pL, pG, pB, pk) ba) wd) (oRf (oBar (nr, nc, pL, pG, pB, pk) ba) rf) lt ln (nI (oBar (nr, nc, pL, pG, pB, pk) ba).1) tr mv fo sp wr td) _ := hP
    have hD : va_D A (MW G mh md nr nc pL pG pB pk (gZ (nr, nc, pL, pG, pB, pk)) hi sv ch hs inp ty er (oWy (oBar (nr, nc, pL, pG, pB, pk) ba) wy) (oWd (oBar (nr, nc, pL, pG, pB, pk) ba) wd) (oRf (oBar (nr, nc, pL, pG, pB, pk) ba) rf) lt ln (nI (oBar (nr, nc, pL, pG, pB, pk) ba).1) tr mv fo sp wr td) := hD
    have hz9 := ((ok_bar (nr, nc, pL, pG, pB, pk) ba)).2.1 hk9
    refine lv_iconst (v := nI 1) hx hb dX5_bar_13 (by decide) ?_
    refine n_cmp_ne (tgt := 21) hx hb dX5_bar_14 (by decide) (by decide) (by decide) (fun c14 => ?_) (fun c14 => ?_)
    rotate_left
    · exact absurd c14 (by decide)
    refine lv_iconst (v := nI 0) hx hb dX5_bar_21 (by decide) ?_
    subst hQ
    rw [hz9.1]
    exact ret_i hx hb hr hlk (⟨hi, ch⟩) ⟨(bI_d0 (by first | exact c14 | (rw [hz9.2]; decide))), (by rw [oH, if_neg hk9]; exact hH)⟩ hP hD hS rfl dX5_bar_22
set_option maxHeartbeats 4000000 in
set_option maxRecDepth 100000 in
theorem m_X5_scramble (l : Launch) (G : GG) (mh : Nat) (md : Nat → Nat) (nr : Nat) (nc : Nat) (pL : Nat → Nat) (pG : Nat → Nat) (pB : Nat → Bool) (pk : Nat → Int32) (bf : Nat → Int32) (hi : Nat → Int32) (sv : Nat → Int32) (ch : Nat) (hs : Bool) (inp : Nat → Nat) (ty : Nat) (er : Int32) (wy : Int32) (wd : Int32) (rf : Bool) (lt : Nat → Nat) (ln : Nat) (th : Int32) (tr : Nat → Nat) (mv : Nat → Nat) (fo : Int32) (sp : Nat) (wr : Bool) (td : Nat → Int32) (ba : Int32) (bb : Int32) (zl : List ZT) (hd : 2 ≤ nr ∧ nr ≤ 3 ∧ 2 ≤ nc ∧ nc ≤ 3) (hLR : ∀ q, q < nr * nc → 97 ≤ pL q ∧ pL q ≤ 108) (hKR : ∀ q, q < nr * nc → pG q = 46 ∨ (97 ≤ pG q ∧ pG q ≤ 108)) (hH : HistA hi zl ch) : MM l G yX5_scramble cX5_scramble 3 (some .int) ⟨4, 0, 0, 96⟩ [.ref mh, .int ba, .int bb] (MW G mh md nr nc pL pG pB pk bf hi sv ch hs inp ty er wy wd rf lt ln th tr mv fo sp wr td) (Qi_ G (fun (r : Int32) (u : (Nat → Int32) × (Nat) × (Nat → Nat) × (Nat → Nat)) => (r = (oScr (nr, nc, pL, pG, pB, pk) ba bb).2.2.1) ∧ (HistA u.1 (oH (oScr (nr, nc, pL, pG, pB, pk) ba bb) zl (nr, nc, pL, pG, pB, pk)) u.2.1)) (fun (u : (Nat → Int32) × (Nat) × (Nat → Nat) × (Nat → Nat)) => (MW G mh md ((oScr (nr, nc, pL, pG, pB, pk) ba bb).2.1.1) ((oScr (nr, nc, pL, pG, pB, pk) ba bb).2.1.2.1) ((oScr (nr, nc, pL, pG, pB, pk) ba bb).2.1.2.2.1) ((oScr (nr, nc, pL, pG, pB, pk) ba bb).2.1.2.2.2.1) ((oScr (nr, nc, pL, pG, pB, pk) ba bb).2.1.2.2.2.2.1) ((oScr (nr, nc, pL, pG, pB, pk) ba bb).2.1.2.2.2.2.2) (gZ (nr, nc, pL, pG, pB, pk)) u.1 sv u.2.1 hs inp ty er (oWy (oScr (nr, nc, pL, pG, pB, pk) ba bb) wy) (oWd (oScr (nr, nc, pL, pG, pB, pk) ba bb) wd) (oRf (oScr (nr, nc, pL, pG, pB, pk) ba bb) rf) lt ln (nI (oScr (nr, nc, pL, pG, pB, pk) ba bb).1) u.2.2.1 u.2.2.2 fo sp wr td))) := by
  refine MM.of (by decide) (Nat.le_of_ble_eq_true rfl) ?_
  intro p e s m args below meth cd A C hini hA hK hZ hP hD ls hl
  generalize hQ : MQ below ((Qi_ G (fun (r : Int32) (u : (Nat → Int32) × (Nat) × (Nat → Nat) × (Nat → Nat)) => (r = (oScr (nr, nc, pL, pG, pB, pk) ba bb).2.2.1) ∧ (HistA u.1 (oH (oScr (nr, nc, pL, pG, pB, pk) ba bb) zl (nr, nc, pL, pG, pB, pk)) u.2.1)) (fun (u : (Nat → Int32) × (Nat) × (Nat → Nat) × (Nat → Nat)) => (MW G mh md ((oScr (nr, nc, pL, pG, pB, pk) ba bb).2.1.1) ((oScr (nr, nc, pL, pG, pB, pk) ba bb).2.1.2.1) ((oScr (nr, nc, pL, pG, pB, pk) ba bb).2.1.2.2.1) ((oScr (nr, nc, pL, pG, pB, pk) ba bb).2.1.2.2.2.1) ((oScr (nr, nc, pL, pG, pB, pk) ba bb).2.1.2.2.2.2.1) ((oScr (nr, nc, pL, pG, pB, pk) ba bb).2.1.2.2.2.2.2) (gZ (nr, nc, pL, pG, pB, pk)) u.1 sv u.2.1 hs inp ty er (oWy (oScr (nr, nc, pL, pG, pB, pk) ba bb) wy) (oWd (oScr (nr, nc, pL, pG, pB, pk) ba bb) wd) (oRf (oScr (nr, nc, pL, pG, pB, pk) ba bb) rf) lt ln (nI (oScr (nr, nc, pL, pG, pB, pk) ba bb).1) u.2.2.1 u.2.2.2 fo sp wr td))) A) args s (⟨4, 0, 0, 96⟩ : Room).cells (⟨4, 0, 0, 96⟩ : Room).slots A = Q
  obtain ⟨hx, hb, hr, hts, hown, hlk, hml⟩ := C
  have hown : s.vm.findClass RX5 = some m.cls := hown
  have hS : va_S A s.heap s.heap [] := va_S.rf
  have hl : lv_has ls 3 [(0, .ref mh), (1, .int ba), (2, .int bb)] := hl
  have hmu := dm_mul hd
  refine lv_aload_n hx hb dX5_scramble_0 rfl (lv_at hl 0 rfl) ?_
  refine callVv (As := []) (rest := []) (wc := (MW G mh md nr nc pL pG pB pk bf hi sv ch hs inp ty er wy wd rf lt ln th tr mv fo sp wr td)) (wr := ([] : va_W)) ⟨hx, hb, hml, hown, hts⟩ (m_X5_looksBack l G mh md nr nc pL pG pB pk bf hi sv ch hs inp ty er wy wd rf lt ln th tr mv fo sp wr td ) (cwV 0 hts (lw_V q1799 q1801 qs35 q105 q1802) rfl rfl rfl (by decide +kernel) ⟨Nat.le_of_ble_eq_true rfl, Nat.le_of_ble_eq_true rfl⟩) hK hZ hA hP hD hS [0, 1, 2, 3, 4, 5, 6, 7, 8, 9] [] rfl rfl (by decide) (by decide) (by decide) 0 4 rfl rfl rfl hl.1 (Nat.le_of_ble_eq_true rfl) ⟨Nat.le_of_ble_eq_true rfl, Nat.le_of_ble_eq_true rfl⟩ rfl dX5_scramble_1 (fun u9 H locs hw9 hP hD hS => ?_)
  have hP : va_P G.1 CL (MW G mh md nr nc pL pG pB pk (gZ (nr, nc, pL, pG, pB, pk)) hi sv ch hs inp ty er wy wd rf lt ln th tr mv fo sp wr td) _ := hP
  have hD : va_D A (MW G mh md nr nc pL pG pB pk (gZ (nr, nc, pL, pG, pB, pk)) hi sv ch hs inp ty er wy wd rf lt ln th tr mv fo sp wr td) := hD
  refine lv_aload_n hx hb dX5_scramble_4 rfl (lv_at hl 0 rfl) ?_
  refine lv_aload_n hx hb dX5_scramble_5 rfl (lv_at hl 0 rfl) ?_
  refine lv_iload_n hx hb dX5_scramble_6 rfl (lv_at hl 1 rfl) ?_
  refine lv_iload_n hx hb dX5_scramble_7 rfl (lv_at hl 2 rfl) ?_
  refine callVi (As := [.int ba, .int bb]) (rest := [.ref mh]) (wc := (MW G mh md nr nc pL pG pB pk (gZ (nr, nc, pL, pG, pB, pk)) hi sv ch hs inp ty er wy wd rf lt ln th tr mv fo sp wr td)) (wr := ([] : va_W)) ⟨hx, hb, hml, hown, hts⟩ (m_X5_scrambles l G mh md nr nc pL pG pB pk (gZ (nr, nc, pL, pG, pB, pk)) hi sv ch hs inp ty er wy wd rf lt ln th tr mv fo sp wr td ba bb (by first | assumption | omega) (by first | assumption | omega) (by first | assumption | omega)) (cwV 2 hts (lw_V q1939 q1941 qs61 q105 q1942) rfl rfl rfl (by decide +kernel) ⟨Nat.le_of_ble_eq_true rfl, Nat.le_of_ble_eq_true rfl⟩) hK hZ hA hP hD hS [0, 1, 2, 3, 4, 5, 6, 7, 8, 9] [] rfl rfl (by decide) (by decide) (by decide) 0 4 rfl rfl rfl hl.1 (Nat.le_of_ble_eq_true rfl) ⟨Nat.le_of_ble_eq_true rfl, Nat.le_of_ble_eq_true rfl⟩ rfl dX5_scramble_8 (fun r9 u9 H locs hw9 hP hD hS => ?_)
  obtain ⟨tr1_2, mv1_2⟩ := u9
  subst hw9
  have hP : va_P G.1 CL (MW G mh md ((oScr (nr, nc, pL, pG, pB, pk) ba bb).2.1.1) ((oScr (nr, nc, pL, pG, pB, pk) ba bb).2.1.2.1) ((oScr (nr, nc, pL, pG, pB, pk) ba bb).2.1.2.2.1) ((oScr (nr, nc, pL, pG, pB, pk) ba bb).2.1.2.2.2.1) ((oScr (nr, nc, pL, pG, pB, pk) ba bb).2.1.2.2.2.2.1) ((oScr (nr, nc, pL, pG, pB, pk) ba bb).2.1.2.2.2.2.2) (gZ (nr, nc, pL, pG, pB, pk)) hi sv ch hs inp ty er (oWy (oScr (nr, nc, pL, pG, pB, pk) ba bb) wy) (oWd (oScr (nr, nc, pL, pG, pB, pk) ba bb) wd) (oRf (oScr (nr, nc, pL, pG, pB, pk) ba bb) rf) lt ln (nI (oScr (nr, nc, pL, pG, pB, pk) ba bb).1) tr1_2 mv1_2 fo sp wr td) _ := hP
  have hD : va_D A (MW G mh md ((oScr (nr, nc, pL, pG, pB, pk) ba bb).2.1.1) ((oScr (nr, nc, pL, pG, pB, pk) ba bb).2.1.2.1) ((oScr (nr, nc, pL, pG, pB, pk) ba bb).2.1.2.2.1) ((oScr (nr, nc, pL, pG, pB, pk) ba bb).2.1.2.2.2.1) ((oScr (nr, nc, pL, pG, pB, pk) ba bb).2.1.2.2.2.2.1) ((oScr (nr, nc, pL, pG, pB, pk) ba bb).2.1.2.2.2.2.2) (gZ (nr, nc, pL, pG, pB, pk)) hi sv ch hs inp ty er (oWy (oScr (nr, nc, pL, pG, pB, pk) ba bb) wy) (oWd (oScr (nr, nc, pL, pG, pB, pk) ba bb) wd) (oRf (oScr (nr, nc, pL, pG, pB, pk) ba bb) rf) lt ln (nI (oScr (nr, nc, pL, pG, pB, pk) ba bb).1) tr1_2 mv1_2 fo sp wr td) := hD
  by_cases hk9 : (oScr (nr, nc, pL, pG, pB, pk) ba bb).1 = 0
  · skip
    refine callVi (As := [.int ((oScr (nr, nc, pL, pG, pB, pk) ba bb).2.2.1)]) (rest := []) (wc := (MW G mh md ((oScr (nr, nc, pL, pG, pB, pk) ba bb).2.1.1) ((oScr (nr, nc, pL, pG, pB, pk) ba bb).2.1.2.1) ((oScr (nr, nc, pL, pG, pB, pk) ba bb).2.1.2.2.1) ((oScr (nr, nc, pL, pG, pB, pk) ba bb).2.1.2.2.2.1) ((oScr (nr, nc, pL, pG, pB, pk) ba bb).2.1.2.2.2.2.1) ((oScr (nr, nc, pL, pG, pB, pk) ba bb).2.1.2.2.2.2.2) (gZ (nr, nc, pL, pG, pB, pk)) hi sv ch hs inp ty er (oWy (oScr (nr, nc, pL, pG, pB, pk) ba bb) wy) (oWd (oScr (nr, nc, pL, pG, pB, pk) ba bb) wd) (oRf (oScr (nr, nc, pL, pG, pB, pk) ba bb) rf) lt ln (nI (oScr (nr, nc, pL, pG, pB, pk) ba bb).1) tr1_2 mv1_2 fo sp wr td)) (wr := ([] : va_W)) ⟨hx, hb, hml, hown, hts⟩ (m_X5_kept__0 l G mh md ((oScr (nr, nc, pL, pG, pB, pk) ba bb).2.1.1) ((oScr (nr, nc, pL, pG, pB, pk) ba bb).2.1.2.1) ((oScr (nr, nc, pL, pG, pB, pk) ba bb).2.1.2.2.1) ((oScr (nr, nc, pL, pG, pB, pk) ba bb).2.1.2.2.2.1) ((oScr (nr, nc, pL, pG, pB, pk) ba bb).2.1.2.2.2.2.1) ((oScr (nr, nc, pL, pG, pB, pk) ba bb).2.1.2.2.2.2.2) hi sv ch hs inp ty er (oWy (oScr (nr, nc, pL, pG, pB, pk) ba bb) wy) (oWd (oScr (nr, nc, pL, pG, pB, pk) ba bb) wd) (oRf (oScr (nr, nc, pL, pG, pB, pk) ba bb) rf) lt ln (nI (oScr (nr, nc, pL, pG, pB, pk) ba bb).1) tr1_2 mv1_2 fo sp wr td ((oScr (nr, nc, pL, pG, pB, pk) ba bb).2.2.1) (nr, nc, pL, pG, pB, pk) zl (by rw [hk9]; exact nI_0) hH) (cwV 1 hts (lw_V q1825 q1827 qs40 q105 q1828) rfl rfl rfl (by decide +kernel) ⟨Nat.le_of_ble_eq_true rfl, Nat.le_of_ble_eq_true rfl⟩) hK hZ hA hP hD hS [0, 1, 2, 3, 4, 5, 6, 7, 8, 9] [] rfl rfl (by decide) (by decide) (by decide) 0 4 rfl rfl rfl hl.1 (Nat.le_of_ble_eq_true rfl) ⟨Nat.le_of_ble_eq_true rfl, Nat.le_of_ble_eq_true rfl⟩ rfl dX5_scramble_11 (fun r9 u9 H locs hw9 hP hD hS => ?_)
    obtain ⟨hi1_3, ch1_3⟩ := u9
    obtain ⟨hr9, hw11⟩ := hw9
    subst hr9
    have hw11 : HistA hi1_3 (pushH zl (nr, nc, pL, pG, pB, pk)) ch1_3 := hw11
    have hP : va_P G.1 CL (MW G mh md ((oScr (nr, nc, pL, pG, pB, pk) ba bb).2.1.1) ((oScr (nr, nc, pL, pG, pB, pk) ba bb).2.1.2.1) ((oScr (nr, nc, pL, pG, pB, pk) ba bb).2.1.2.2.1) ((oScr (nr, nc, pL, pG, pB, pk) ba bb).2.1.2.2.2.1) ((oScr (nr, nc, pL, pG, pB, pk) ba bb).2.1.2.2.2.2.1) ((oScr (nr, nc, pL, pG, pB, pk) ba bb).2.1.2.2.2.2.2) (gZ (nr, nc, pL, pG, pB, pk)) hi1_3 sv ch1_3 hs inp ty er (oWy (oScr (nr, nc, pL, pG, pB, pk) ba bb) wy) (oWd (oScr (nr, nc, pL, pG, pB, pk) ba bb) wd) (oRf (oScr (nr, nc, pL, pG, pB, pk) ba bb) rf) lt ln (nI (oScr (nr, nc, pL, pG, pB, pk) ba bb).1) tr1_2 mv1_2 fo sp wr td) _ := hP
    have hD : va_D A (MW G mh md ((oScr (nr, nc, pL, pG, pB, pk) ba bb).2.1.1) ((oScr (nr, nc, pL, pG, pB, pk) ba bb).2.1.2.1) ((oScr (nr, nc, pL, pG, pB, pk) ba bb).2.1.2.2.1) ((oScr (nr, nc, pL, pG, pB, pk) ba bb).2.1.2.2.2.1) ((oScr (nr, nc, pL, pG, pB, pk) ba bb).2.1.2.2.2.2.1) ((oScr (nr, nc, pL, pG, pB, pk) ba bb).2.1.2.2.2.2.2) (gZ (nr, nc, pL, pG, pB, pk)) hi1_3 sv ch1_3 hs inp ty er (oWy (oScr (nr, nc, pL, pG, pB, pk) ba bb) wy) (oWd (oScr (nr, nc, pL, pG, pB, pk) ba bb) wd) (oRf (oScr (nr, nc, pL, pG, pB, pk) ba bb) rf) lt ln (nI (oScr (nr, nc, pL, pG, pB, pk) ba bb).1) tr1_2 mv1_2 fo sp wr td) := hD
    subst hQ
    exact ret_i hx hb hr hlk (⟨hi1_3, ch1_3, tr1_2, mv1_2⟩) ⟨rfl, (by rw [oH, if_pos hk9]; exact hw11)⟩ hP hD hS rfl dX5_scramble_14
  · skip
    refine callVi (As := [.int ((oScr (nr, nc, pL, pG, pB, pk) ba bb).2.2.1)]) (rest := []) (wc := (MW G mh md ((oScr (nr, nc, pL, pG, pB, pk) ba bb).2.1.1) ((oScr (nr, nc, pL, pG, pB, pk) ba bb).2.1.2.1) ((oScr (nr, nc, pL, pG, pB, pk) ba bb).2.1.2.2.1) ((oScr (nr, nc, pL, pG, pB, pk) ba bb).2.1.2.2.2.1) ((oScr (nr, nc, pL, pG, pB, pk) ba bb).2.1.2.2.2.2.1) ((oScr (nr, nc, pL, pG, pB, pk) ba bb).2.1.2.2.2.2.2) (gZ (nr, nc, pL, pG, pB, pk)) hi sv ch hs inp ty er (oWy (oScr (nr, nc, pL, pG, pB, pk) ba bb) wy) (oWd (oScr (nr, nc, pL, pG, pB, pk) ba bb) wd) (oRf (oScr (nr, nc, pL, pG, pB, pk) ba bb) rf) lt ln (nI (oScr (nr, nc, pL, pG, pB, pk) ba bb).1) tr1_2 mv1_2 fo sp wr td)) (wr := ([] : va_W)) ⟨hx, hb, hml, hown, hts⟩ (m_X5_kept__t l G mh md ((oScr (nr, nc, pL, pG, pB, pk) ba bb).2.1.1) ((oScr (nr, nc, pL, pG, pB, pk) ba bb).2.1.2.1) ((oScr (nr, nc, pL, pG, pB, pk) ba bb).2.1.2.2.1) ((oScr (nr, nc, pL, pG, pB, pk) ba bb).2.1.2.2.2.1) ((oScr (nr, nc, pL, pG, pB, pk) ba bb).2.1.2.2.2.2.1) ((oScr (nr, nc, pL, pG, pB, pk) ba bb).2.1.2.2.2.2.2) hi sv ch hs inp ty er (oWy (oScr (nr, nc, pL, pG, pB, pk) ba bb) wy) (oWd (oScr (nr, nc, pL, pG, pB, pk) ba bb) wd) (oRf (oScr (nr, nc, pL, pG, pB, pk) ba bb) rf) lt ln (nI (oScr (nr, nc, pL, pG, pB, pk) ba bb).1) tr1_2 mv1_2 fo sp wr td ((oScr (nr, nc, pL, pG, pB, pk) ba bb).2.2.1) (nr, nc, pL, pG, pB, pk) ((ok_scr (nr, nc, pL, pG, pB, pk) ba bb).th hk9)) (cwV 1 hts (lw_V q1825 q1827 qs40 q105 q1828) rfl rfl rfl (by decide +kernel) ⟨Nat.le_of_ble_eq_true rfl, Nat.le_of_ble_eq_true rfl⟩) hK hZ hA hP hD hS [0, 1, 2, 3, 4, 5, 6, 7, 8, 9] [] rfl rfl (by decide) (by decide) (by decide) 0 4 rfl rfl rfl hl.1 (Nat.le_of_ble_eq_true rfl) ⟨Nat.le_of_ble_eq_true rfl, Nat.le_of_ble_eq_true rfl⟩ rfl dX5_scramble_11 (fun r9 u9 H locs hw9 hP hD hS => ?_)
    subst hw9
    have hP : va_P G.1 CL (MW G mh md ((nr, nc, pL, pG, pB, pk).1) ((nr, nc, pL, pG, pB, pk).2.1) ((nr, nc, pL, pG, pB, pk).2.2.1) ((nr, nc, pL, pG, pB, pk).2.2.2.1) ((nr, nc, pL, pG, pB, pk).2.2.2.2.1) ((nr, nc, pL, pG, pB, pk).2.2.2.2.2) (gZ (nr, nc, pL, pG, pB, pk)) hi sv ch hs inp ty er (oWy (oScr (nr, nc, pL, pG, pB, pk) ba bb) wy) (oWd (oScr (nr, nc, pL, pG, pB, pk) ba bb) wd) (oRf (oScr (nr, nc, pL, pG, pB, pk) ba bb) rf) lt ln (nI (oScr (nr, nc, pL, pG, pB, pk) ba bb).1) tr1_2 mv1_2 fo sp wr td) _ := hP
    have hD : va_D A (MW G mh md ((nr, nc, pL, pG, pB, pk).1) ((nr, nc, pL, pG, pB, pk).2.1) ((nr, nc, pL, pG, pB, pk).2.2.1) ((nr, nc, pL, pG, pB, pk).2.2.2.1) ((nr, nc, pL, pG, pB, pk).2.2.2.2.1) ((nr, nc, pL, pG, pB, pk).2.2.2.2.2) (gZ (nr, nc, pL, pG, pB, pk)) hi sv ch hs inp ty er (oWy (oScr (nr, nc, pL, pG, pB, pk) ba bb) wy) (oWd (oScr (nr, nc, pL, pG, pB, pk) ba bb) wd) (oRf (oScr (nr, nc, pL, pG, pB, pk) ba bb) rf) lt ln (nI (oScr (nr, nc, pL, pG, pB, pk) ba bb).1) tr1_2 mv1_2 fo sp wr td) := hD
    have hP : va_P G.1 CL (MW G mh md nr nc pL pG pB pk (gZ (nr, nc, pL, pG, pB, pk)) hi sv ch hs inp ty er (oWy (oScr (nr, nc, pL, pG, pB, pk) ba bb) wy) (oWd (oScr (nr, nc, pL, pG, pB, pk) ba bb) wd) (oRf (oScr (nr, nc, pL, pG, pB, pk) ba bb) rf) lt ln (nI (oScr (nr, nc, pL, pG, pB, pk) ba bb).1) tr1_2 mv1_2 fo sp wr td) _ := hP
    have hD : va_D A (MW G mh md nr nc pL pG pB pk (gZ (nr, nc, pL, pG, pB, pk)) hi sv ch hs inp ty er (oWy (oScr (nr, nc, pL, pG, pB, pk) ba bb) wy) (oWd (oScr (nr, nc, pL, pG, pB, pk) ba bb) wd) (oRf (oScr (nr, nc, pL, pG, pB, pk) ba bb) rf) lt ln (nI (oScr (nr, nc, pL, pG, pB, pk) ba bb).1) tr1_2 mv1_2 fo sp wr td) := hD
    have hz9 := ((ok_scr (nr, nc, pL, pG, pB, pk) ba bb)).2.1 hk9
    subst hQ
    rw [hz9.1]
    exact ret_i hx hb hr hlk (⟨hi, ch, tr1_2, mv1_2⟩) ⟨hz9.2.symm, (by rw [oH, if_neg hk9]; exact hH)⟩ hP hD hS rfl dX5_scramble_14
