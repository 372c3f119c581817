def stF (nr nc : Nat) (L K : Nat → Nat) (B : Nat → Bool) : Nat := ftN nr nc B L K (awZ nr nc L K B - 1)
def stV (nr nc : Nat) (L K : Nat → Nat) (B : Nat → Bool) : Int32 := if awZ nr nc L K B = 4 then -1 else nI (stF nr nc L K B)
def stL (nr nc : Nat) (L K : Nat → Nat) (B : Nat → Bool) : Nat → Nat := if awZ nr nc L K B = 4 then L else tn nr nc (stF nr nc L K B) L
def stK (nr nc : Nat) (L K : Nat → Nat) (B : Nat → Bool) (k : Nat → Int32) : Nat → Int32 := if awZ nr nc L K B = 4 then k else va_up (turnK nr nc L K k (stF nr nc L K B)) 3 (k 3 + 1)
theorem aw_pos {nr nc : Nat} {L K : Nat → Nat} {B : Nat → Bool} (h : ¬ hm nr nc L K = nr * nc) : 1 ≤ awZ nr nc L K B := by
  rcases Nat.eq_zero_or_pos (awZ nr nc L K B) with z | z
  · exfalso
    have h0 : rch nr nc B K 0 L = true := by
      unfold awZ awN at z
      by_cases h0 : rch nr nc B K 0 L = true
      · exact h0
      · rw [if_neg h0] at z; revert z; (repeat' split) <;> intro z <;> exact absurd z (by decide)
    exact h (of_decide_eq_true h0)
  · exact z
set_option maxHeartbeats 4000000 in
set_option maxRecDepth 100000 in
theorem m_X2_put (l : Launch) (G : GG) (ph : Nat) (pd : Nat → Nat) (nr : Nat) (nc : Nat) (pL : Nat → Nat) (pG : Nat → Nat) (pB : Nat → Bool) (pk : Nat → Int32) (pa : Nat → Nat) (pt : Nat → Nat) (pm : Nat) (pp : Nat) (cv : Nat) (hp0 : pp < 9) (hcv : cv < 65536) (hL : ∀ i, pL i < 65536) (hst : l.stackTraces = false) : MX l G yX2_put cX2_put 4 (some .char) ⟨6, 1, 8, 102⟩ [.ref ph, .int (nI pp), .int (nI cv)] (PW G ph pd nr nc pL pG pB pk pa pt pm) (Qi_ G (fun (r : Int32) (_ : Unit) => (r = nI (pL pp)) ∧ (¬ pL pp = cv)) (fun (_ : Unit) => (PW G ph pd nr nc (va_up pL pp cv) pG pB pk pa pt pm))) (XQ G (fun (_ : Unit) => RX6) (fun (_ : Unit) => pL pp = cv) (fun (q9 : Nat) (_ : Unit) => (PW G ph pd nr nc pL pG pB pk pa pt pm ++ RFW G q9 (nI 2) (nI pp)))) := by
  refine MX.of (by decide) (Nat.le_of_ble_eq_true rfl) ?_
  intro p e s m args below meth cd A C hini hA hK hZ hP hD hnt ls hl
  generalize hQ : vx_MQ below ((Qi_ G (fun (r : Int32) (_ : Unit) => (r = nI (pL pp)) ∧ (¬ pL pp = cv)) (fun (_ : Unit) => (PW G ph pd nr nc (va_up pL pp cv) pG pB pk pa pt pm))) A) ((XQ G (fun (_ : Unit) => RX6) (fun (_ : Unit) => pL pp = cv) (fun (q9 : Nat) (_ : Unit) => (PW G ph pd nr nc pL pG pB pk pa pt pm ++ RFW G q9 (nI 2) (nI pp)))) A) args s (⟨6, 1, 8, 102⟩ : Room).cells (⟨6, 1, 8, 102⟩ : Room).slots A = Q
  obtain ⟨hx, hb, hr, hts, hown, hlk, hml⟩ := C
  have hown : s.vm.findClass RX2 = some m.cls := hown
  have hS : va_S A s.heap s.heap [] := va_S.rf
  have hl : lv_has ls 4 [(0, .ref ph), (1, .int (nI pp)), (2, .int (nI cv))] := hl
  refine lv_aload_n hx hb dX2_put_0 rfl (lv_at hl 0 rfl) ?_
  refine va_get (D := G.1) (ci := 1) (v := .ref (pd 0)) (C := RX2) (T := TX2) (N := 14) hx hb hts in_X2 hown hK hP 0 rfl rfl 2 (by decide) (hts _ q145) (fun _ h9 => h9) rfl dX2_put_1 ?_
  refine lv_iload_n hx hb dX2_put_4 rfl (lv_at hl 1 rfl) ?_
  refine n_cald hx hb hK hP 1 2 rfl rfl (by omega) (by decide) dX2_put_5 ?_
  refine lv_istore_n (lv' := [(3, .int (nI (pL pp))), (0, .ref ph), (1, .int (nI pp)), (2, .int (nI cv))]) hx hb dX2_put_6 rfl hl (by decide) rfl (fun ls hl => ?_)
  refine lv_iload_n hx hb dX2_put_7 rfl (lv_at hl 0 rfl) ?_
  refine lv_iload_n hx hb dX2_put_8 rfl (lv_at hl 3 rfl) ?_
  refine n_cmp_ne (tgt := 16) hx hb dX2_put_9 (by decide) (by have := hL pp; omega) (by omega) (fun c9 => ?_) (fun c9 => ?_)
  · skip
    refine lv_iconst (v := nI 0) hx hb dX2_put_16 (by decide) ?_
    refine lv_iconst (v := nI 2) hx hb dX2_put_17 (by decide) ?_
    refine lv_iload_n hx hb dX2_put_18 rfl (lv_at hl 2 rfl) ?_
    refine callXSNv (As := [.int (nI 0), .int (nI 2), .int (nI pp)]) (rest := []) (wc := ([] : va_W)) (wr := (PW G ph pd nr nc pL pG pB pk pa pt pm)) ⟨hx, hb, hml, hown, hts⟩ (m_X1_refuse l G false (nI 2) (nI pp) (by first | assumption | omega)) (va_cnB 3 hts (lw_meth q1216) rfl rfl rfl (KS.nw hZ q1214 rfl) (hts _ q88) (by decide +kernel) ⟨Nat.le_of_ble_eq_true rfl, Nat.le_of_ble_eq_true rfl⟩) (hts _ q1215) hK hZ hA hP hD hS [] [0, 1, 2, 3, 4, 5] rfl rfl (by decide) (by decide) (by decide) rfl hl.1 (Nat.le_of_ble_eq_true rfl) ⟨Nat.le_of_ble_eq_true rfl, Nat.le_of_ble_eq_true rfl⟩ rfl dX2_put_19 (fun ce9 q9 u9 H locs hw9 hP hD hS hce hcv hcl => ?_) (fun u9 H locs hw9 hP hD hS => ?_)
    · skip
      have hx19 : false = true := hw9
      have hP : va_P G.1 CL (PW G ph pd nr nc pL pG pB pk pa pt pm ++ RFW G q9 (nI 2) (nI pp)) _ := hP
      have hD : va_D A (PW G ph pd nr nc pL pG pB pk pa pt pm ++ RFW G q9 (nI 2) (nI pp)) := hD
      have hcl : s.vm.findClass RX6 = some ce9.cls := hcl
      subst hQ
      refine vx_widen (k := 1) (n := 8) (Nat.le_of_ble_eq_true rfl) (Nat.le_of_ble_eq_true rfl) ?_
      exact out_x (by rw [hnt]; exact fun x9 hx9 => nomatch hx9) hlk () (by first | exact c9 | exact absurd hx19 (by decide)) hP hD hS hce hcv hcl (Nat.le_refl _) (Nat.le_refl _)
    refine W.widen (k := 1) (n := 8) (Nat.le_refl _) (Nat.le_refl _) ?_
    have hw19 : false = false := hw9
    have hP : va_P G.1 CL (PW G ph pd nr nc pL pG pB pk pa pt pm) _ := hP
    have hD : va_D A (PW G ph pd nr nc pL pG pB pk pa pt pm) := hD
    refine lv_aload_n hx hb dX2_put_22 rfl (lv_at hl 1 rfl) ?_
    refine va_get (D := G.1) (ci := 1) (v := .ref (pd 0)) (C := RX2) (T := TX2) (N := 14) hx hb hts in_X2 hown hK hP 0 rfl rfl 2 (by decide) (hts _ q145) (fun _ h9 => h9) rfl dX2_put_23 ?_
    refine lv_iload_n hx hb dX2_put_26 rfl (lv_at hl 2 rfl) ?_
    refine lv_iload_n hx hb dX2_put_27 rfl (lv_at hl 3 rfl) ?_
    refine n_cast hx hb hK hP hD hS 1 2 rfl rfl (by omega) (by decide) hcv dX2_put_28 (fun H locs hP hD hS => ?_)
    have hP : va_P G.1 CL (PW G ph pd nr nc (va_up pL pp cv) pG pB pk pa pt pm) _ := hP
    have hD : va_D A (PW G ph pd nr nc (va_up pL pp cv) pG pB pk pa pt pm) := hD
    refine lv_iload_n hx hb dX2_put_29 rfl (lv_at hl 0 rfl) ?_
    subst hQ
    refine vx_ret ?_
    exact ret_i hx hb hr hlk () ⟨rfl, (by first | exact c9 | exact absurd hw19 (by decide))⟩ hP hD hS (pk_charN (hL pp)).1 dX2_put_30
  · skip
    refine lv_iconst (v := nI 1) hx hb dX2_put_12 (by decide) ?_
    refine lv_goto (tgt := 17) hx hb dX2_put_13 (by decide) ?_
    refine lv_iconst (v := nI 2) hx hb dX2_put_17 (by decide) ?_
    refine lv_iload_n hx hb dX2_put_18 rfl (lv_at hl 2 rfl) ?_
    refine callXSNv (As := [.int (nI 1), .int (nI 2), .int (nI pp)]) (rest := []) (wc := ([] : va_W)) (wr := (PW G ph pd nr nc pL pG pB pk pa pt pm)) ⟨hx, hb, hml, hown, hts⟩ (m_X1_refuse l G true (nI 2) (nI pp) (by first | assumption | omega)) (va_cnB 3 hts (lw_meth q1216) rfl rfl rfl (KS.nw hZ q1214 rfl) (hts _ q88) (by decide +kernel) ⟨Nat.le_of_ble_eq_true rfl, Nat.le_of_ble_eq_true rfl⟩) (hts _ q1215) hK hZ hA hP hD hS [] [0, 1, 2, 3, 4, 5] rfl rfl (by decide) (by decide) (by decide) rfl hl.1 (Nat.le_of_ble_eq_true rfl) ⟨Nat.le_of_ble_eq_true rfl, Nat.le_of_ble_eq_true rfl⟩ rfl dX2_put_19 (fun ce9 q9 u9 H locs hw9 hP hD hS hce hcv hcl => ?_) (fun u9 H locs hw9 hP hD hS => ?_)
    · skip
      have hx19 : true = true := hw9
      have hP : va_P G.1 CL (PW G ph pd nr nc pL pG pB pk pa pt pm ++ RFW G q9 (nI 2) (nI pp)) _ := hP
      have hD : va_D A (PW G ph pd nr nc pL pG pB pk pa pt pm ++ RFW G q9 (nI 2) (nI pp)) := hD
      have hcl : s.vm.findClass RX6 = some ce9.cls := hcl
      subst hQ
      refine vx_widen (k := 1) (n := 8) (Nat.le_of_ble_eq_true rfl) (Nat.le_of_ble_eq_true rfl) ?_
      exact out_x (by rw [hnt]; exact fun x9 hx9 => nomatch hx9) hlk () (by first | exact c9 | exact absurd hx19 (by decide)) hP hD hS hce hcv hcl (Nat.le_refl _) (Nat.le_refl _)
    refine W.widen (k := 1) (n := 8) (Nat.le_refl _) (Nat.le_refl _) ?_
    have hw19 : true = false := hw9
    have hP : va_P G.1 CL (PW G ph pd nr nc pL pG pB pk pa pt pm) _ := hP
    have hD : va_D A (PW G ph pd nr nc pL pG pB pk pa pt pm) := hD
    refine lv_aload_n hx hb dX2_put_22 rfl (lv_at hl 1 rfl) ?_
    refine va_get (D := G.1) (ci := 1) (v := .ref (pd 0)) (C := RX2) (T := TX2) (N := 14) hx hb hts in_X2 hown hK hP 0 rfl rfl 2 (by decide) (hts _ q145) (fun _ h9 => h9) rfl dX2_put_23 ?_
    refine lv_iload_n hx hb dX2_put_26 rfl (lv_at hl 2 rfl) ?_
    refine lv_iload_n hx hb dX2_put_27 rfl (lv_at hl 3 rfl) ?_
    refine n_cast hx hb hK hP hD hS 1 2 rfl rfl (by omega) (by decide) hcv dX2_put_28 (fun H locs hP hD hS => ?_)
    have hP : va_P G.1 CL (PW G ph pd nr nc (va_up pL pp cv) pG pB pk pa pt pm) _ := hP
    have hD : va_D A (PW G ph pd nr nc (va_up pL pp cv) pG pB pk pa pt pm) := hD
    refine lv_iload_n hx hb dX2_put_29 rfl (lv_at hl 0 rfl) ?_
    subst hQ
    refine vx_ret ?_
    exact ret_i hx hb hr hlk () ⟨rfl, (by first | exact c9 | exact absurd hw19 (by decide))⟩ hP hD hS (pk_charN (hL pp)).1 dX2_put_30
set_option maxHeartbeats 4000000 in
set_option maxRecDepth 100000 in
theorem m_X2_goal (l : Launch) (G : GG) (ph : Nat) (pd : Nat → Nat) (nr : Nat) (nc : Nat) (pL : Nat → Nat) (pG : Nat → Nat) (pB : Nat → Bool) (pk : Nat → Int32) (pa : Nat → Nat) (pt : Nat → Nat) (pm : Nat) (pp : Nat) (cv : Nat) (hp0 : pp < 9) (hcv : cv < 65536) (hG : ∀ i, pG i < 65536) (hst : l.stackTraces = false) : MX l G yX2_goal cX2_goal 4 (some .char) ⟨6, 1, 8, 102⟩ [.ref ph, .int (nI pp), .int (nI cv)] (PW G ph pd nr nc pL pG pB pk pa pt pm) (Qi_ G (fun (r : Int32) (_ : Unit) => (r = nI (pG pp)) ∧ (¬ pG pp = cv)) (fun (_ : Unit) => (PW G ph pd nr nc pL (va_up pG pp cv) pB pk pa pt pm))) (XQ G (fun (_ : Unit) => RX6) (fun (_ : Unit) => pG pp = cv) (fun (q9 : Nat) (_ : Unit) => (PW G ph pd nr nc pL pG pB pk pa pt pm ++ RFW G q9 (nI 2) (nI pp)))) := by
  refine MX.of (by decide) (Nat.le_of_ble_eq_true rfl) ?_
  intro p e s m args below meth cd A C hini hA hK hZ hP hD hnt ls hl
  generalize hQ : vx_MQ below ((Qi_ G (fun (r : Int32) (_ : Unit) => (r = nI (pG pp)) ∧ (¬ pG pp = cv)) (fun (_ : Unit) => (PW G ph pd nr nc pL (va_up pG pp cv) pB pk pa pt pm))) A) ((XQ G (fun (_ : Unit) => RX6) (fun (_ : Unit) => pG pp = cv) (fun (q9 : Nat) (_ : Unit) => (PW G ph pd nr nc pL pG pB pk pa pt pm ++ RFW G q9 (nI 2) (nI pp)))) A) args s (⟨6, 1, 8, 102⟩ : Room).cells (⟨6, 1, 8, 102⟩ : Room).slots A = Q
  obtain ⟨hx, hb, hr, hts, hown, hlk, hml⟩ := C
  have hown : s.vm.findClass RX2 = some m.cls := hown
  have hS : va_S A s.heap s.heap [] := va_S.rf
  have hl : lv_has ls 4 [(0, .ref ph), (1, .int (nI pp)), (2, .int (nI cv))] := hl
  refine lv_aload_n hx hb dX2_goal_0 rfl (lv_at hl 0 rfl) ?_
  refine va_get (D := G.1) (ci := 1) (v := .ref (pd 1)) (C := RX2) (T := TX2) (N := 14) hx hb hts in_X2 hown hK hP 0 rfl rfl 3 (by decide) (hts _ q147) (fun _ h9 => h9) rfl dX2_goal_1 ?_
  refine lv_iload_n hx hb dX2_goal_4 rfl (lv_at hl 1 rfl) ?_
  refine n_cald hx hb hK hP 2 2 rfl rfl (by omega) (by decide) dX2_goal_5 ?_
  refine lv_istore_n (lv' := [(3, .int (nI (pG pp))), (0, .ref ph), (1, .int (nI pp)), (2, .int (nI cv))]) hx hb dX2_goal_6 rfl hl (by decide) rfl (fun ls hl => ?_)
  refine lv_iload_n hx hb dX2_goal_7 rfl (lv_at hl 0 rfl) ?_
  refine lv_iload_n hx hb dX2_goal_8 rfl (lv_at hl 3 rfl) ?_
  refine n_cmp_ne (tgt := 16) hx hb dX2_goal_9 (by decide) (by have := hG pp; omega) (by omega) (fun c9 => ?_) (fun c9 => ?_)
  · skip
    refine lv_iconst (v := nI 0) hx hb dX2_goal_16 (by decide) ?_
    refine lv_iconst (v := nI 2) hx hb dX2_goal_17 (by decide) ?_
    refine lv_iload_n hx hb dX2_goal_18 rfl (lv_at hl 2 rfl) ?_
    refine callXSNv (As := [.int (nI 0), .int (nI 2), .int (nI pp)]) (rest := []) (wc := ([] : va_W)) (wr := (PW G ph pd nr nc pL pG pB pk pa pt pm)) ⟨hx, hb, hml, hown, hts⟩ (m_X1_refuse l G false (nI 2) (nI pp) (by first | assumption | omega)) (va_cnB 3 hts (lw_meth q1216) rfl rfl rfl (KS.nw hZ q1214 rfl) (hts _ q88) (by decide +kernel) ⟨Nat.le_of_ble_eq_true rfl, Nat.le_of_ble_eq_true rfl⟩) (hts _ q1215) hK hZ hA hP hD hS [] [0, 1, 2, 3, 4, 5] rfl rfl (by decide) (by decide) (by decide) rfl hl.1 (Nat.le_of_ble_eq_true rfl) ⟨Nat.le_of_ble_eq_true rfl, Nat.le_of_ble_eq_true rfl⟩ rfl dX2_goal_19 (fun ce9 q9 u9 H locs hw9 hP hD hS hce hcv hcl => ?_) (fun u9 H locs hw9 hP hD hS => ?_)
    · skip
      have hx19 : false = true := hw9
      have hP : va_P G.1 CL (PW G ph pd nr nc pL pG pB pk pa pt pm ++ RFW G q9 (nI 2) (nI pp)) _ := hP
      have hD : va_D A (PW G ph pd nr nc pL pG pB pk pa pt pm ++ RFW G q9 (nI 2) (nI pp)) := hD
      have hcl : s.vm.findClass RX6 = some ce9.cls := hcl
      subst hQ
      refine vx_widen (k := 1) (n := 8) (Nat.le_of_ble_eq_true rfl) (Nat.le_of_ble_eq_true rfl) ?_
      exact out_x (by rw [hnt]; exact fun x9 hx9 => nomatch hx9) hlk () (by first | exact c9 | exact absurd hx19 (by decide)) hP hD hS hce hcv hcl (Nat.le_refl _) (Nat.le_refl _)
    refine W.widen (k := 1) (n := 8) (Nat.le_refl _) (Nat.le_refl _) ?_
    have hw19 : false = false := hw9
    have hP : va_P G.1 CL (PW G ph pd nr nc pL pG pB pk pa pt pm) _ := hP
    have hD : va_D A (PW G ph pd nr nc pL pG pB pk pa pt pm) := hD
    refine lv_aload_n hx hb dX2_goal_22 rfl (lv_at hl 1 rfl) ?_
    refine va_get (D := G.1) (ci := 1) (v := .ref (pd 1)) (C := RX2) (T := TX2) (N := 14) hx hb hts in_X2 hown hK hP 0 rfl rfl 3 (by decide) (hts _ q147) (fun _ h9 => h9) rfl dX2_goal_23 ?_
    refine lv_iload_n hx hb dX2_goal_26 rfl (lv_at hl 2 rfl) ?_
    refine lv_iload_n hx hb dX2_goal_27 rfl (lv_at hl 3 rfl) ?_
    refine n_cast hx hb hK hP hD hS 2 2 rfl rfl (by omega) (by decide) hcv dX2_goal_28 (fun H locs hP hD hS => ?_)
    have hP : va_P G.1 CL (PW G ph pd nr nc pL (va_up pG pp cv) pB pk pa pt pm) _ := hP
    have hD : va_D A (PW G ph pd nr nc pL (va_up pG pp cv) pB pk pa pt pm) := hD
    refine lv_iload_n hx hb dX2_goal_29 rfl (lv_at hl 0 rfl) ?_
    subst hQ
    refine vx_ret ?_
    exact ret_i hx hb hr hlk () ⟨rfl, (by first | exact c9 | exact absurd hw19 (by decide))⟩ hP hD hS (pk_charN (hG pp)).1 dX2_goal_30
  · skip
    refine lv_iconst (v := nI 1) hx hb dX2_goal_12 (by decide) ?_
    refine lv_goto (tgt := 17) hx hb dX2_goal_13 (by decide) ?_
    refine lv_iconst (v := nI 2) hx hb dX2_goal_17 (by decide) ?_
    refine lv_iload_n hx hb dX2_goal_18 rfl (lv_at hl 2 rfl) ?_
    refine callXSNv (As := [.int (nI 1), .int (nI 2), .int (nI pp)]) (rest := []) (wc := ([] : va_W)) (wr := (PW G ph pd nr nc pL pG pB pk pa pt pm)) ⟨hx, hb, hml, hown, hts⟩ (m_X1_refuse l G true (nI 2) (nI pp) (by first | assumption | omega)) (va_cnB 3 hts (lw_meth q1216) rfl rfl rfl (KS.nw hZ q1214 rfl) (hts _ q88) (by decide +kernel) ⟨Nat.le_of_ble_eq_true rfl, Nat.le_of_ble_eq_true rfl⟩) (hts _ q1215) hK hZ hA hP hD hS [] [0, 1, 2, 3, 4, 5] rfl rfl (by decide) (by decide) (by decide) rfl hl.1 (Nat.le_of_ble_eq_true rfl) ⟨Nat.le_of_ble_eq_true rfl, Nat.le_of_ble_eq_true rfl⟩ rfl dX2_goal_19 (fun ce9 q9 u9 H locs hw9 hP hD hS hce hcv hcl => ?_) (fun u9 H locs hw9 hP hD hS => ?_)
    · skip
      have hx19 : true = true := hw9
      have hP : va_P G.1 CL (PW G ph pd nr nc pL pG pB pk pa pt pm ++ RFW G q9 (nI 2) (nI pp)) _ := hP
      have hD : va_D A (PW G ph pd nr nc pL pG pB pk pa pt pm ++ RFW G q9 (nI 2) (nI pp)) := hD
      have hcl : s.vm.findClass RX6 = some ce9.cls := hcl
      subst hQ
      refine vx_widen (k := 1) (n := 8) (Nat.le_of_ble_eq_true rfl) (Nat.le_of_ble_eq_true rfl) ?_
      exact out_x (by rw [hnt]; exact fun x9 hx9 => nomatch hx9) hlk () (by first | exact c9 | exact absurd hx19 (by decide)) hP hD hS hce hcv hcl (Nat.le_refl _) (Nat.le_refl _)
    refine W.widen (k := 1) (n := 8) (Nat.le_refl _) (Nat.le_refl _) ?_
    have hw19 : true = false := hw9
    have hP : va_P G.1 CL (PW G ph pd nr nc pL pG pB pk pa pt pm) _ := hP
    have hD : va_D A (PW G ph pd nr nc pL pG pB pk pa pt pm) := hD
    refine lv_aload_n hx hb dX2_goal_22 rfl (lv_at hl 1 rfl) ?_
    refine va_get (D := G.1) (ci := 1) (v := .ref (pd 1)) (C := RX2) (T := TX2) (N := 14) hx hb hts in_X2 hown hK hP 0 rfl rfl 3 (by decide) (hts _ q147) (fun _ h9 => h9) rfl dX2_goal_23 ?_
    refine lv_iload_n hx hb dX2_goal_26 rfl (lv_at hl 2 rfl) ?_
    refine lv_iload_n hx hb dX2_goal_27 rfl (lv_at hl 3 rfl) ?_
    refine n_cast hx hb hK hP hD hS 2 2 rfl rfl (by omega) (by decide) hcv dX2_goal_28 (fun H locs hP hD hS => ?_)
    have hP : va_P G.1 CL (PW G ph pd nr nc pL (va_up pG pp cv) pB pk pa pt pm) _ := hP
    have hD : va_D A (PW G ph pd nr nc pL (va_up pG pp cv) pB pk pa pt pm) := hD
    refine lv_iload_n hx hb dX2_goal_29 rfl (lv_at hl 0 rfl) ?_
    subst hQ
    refine vx_ret ?_
    exact ret_i hx hb hr hlk () ⟨rfl, (by first | exact c9 | exact absurd hw19 (by decide))⟩ hP hD hS (pk_charN (hG pp)).1 dX2_goal_30
set_option maxHeartbeats 4000000 in
set_option maxRecDepth 100000 in
theorem m_X2_turn (l : Launch) (G : GG) (ph : Nat) (pd : Nat → Nat) (nr : Nat) (nc : Nat) (pL : Nat → Nat) (pG : Nat → Nat) (pB : Nat → Bool) (pk : Nat → Int32) (pa : Nat → Nat) (pt : Nat → Nat) (pm : Nat) (tt : Nat) (hd : 2 ≤ nr ∧ nr ≤ 3 ∧ 2 ≤ nc ∧ nc ≤ 3) (ht0 : tt < 2 * (nr + nc)) (hL : ∀ i, pL i < 65536) (hG : ∀ i, pG i < 65536) (hst : l.stackTraces = false) : MX l G yX2_turn cX2_turn 2 (some .int) ⟨6, 1, 8, 106⟩ [.ref ph, .int (nI tt)] (PW G ph pd nr nc pL pG pB pk pa pt pm) (Qi_ G (fun (r : Int32) (_ : Unit) => (r = nI (hm nr nc (tn nr nc tt pL) pG)) ∧ (pB (tt / 2) = false)) (fun (_ : Unit) => (PW G ph pd nr nc (tn nr nc tt pL) pG pB (turnK nr nc pL pG pk tt) pa pt pm))) (XQ G (fun (_ : Unit) => RX6) (fun (_ : Unit) => pB (tt / 2) = true) (fun (q9 : Nat) (_ : Unit) => (PW G ph pd nr nc pL pG pB pk pa pt pm ++ RFW G q9 (nI 1) (nI (tt / 2))))) := by
  refine MX.of (by decide) (Nat.le_of_ble_eq_true rfl) ?_
  intro p e s m args below meth cd A C hini hA hK hZ hP hD hnt ls hl
  generalize hQ : vx_MQ below ((Qi_ G (fun (r : Int32) (_ : Unit) => (r = nI (hm nr nc (tn nr nc tt pL) pG)) ∧ (pB (tt / 2) = false)) (fun (_ : Unit) => (PW G ph pd nr nc (tn nr nc tt pL) pG pB (turnK nr nc pL pG pk tt) pa pt pm))) A) ((XQ G (fun (_ : Unit) => RX6) (fun (_ : Unit) => pB (tt / 2) = true) (fun (q9 : Nat) (_ : Unit) => (PW G ph pd nr nc pL pG pB pk pa pt pm ++ RFW G q9 (nI 1) (nI (tt / 2))))) A) args s (⟨6, 1, 8, 106⟩ : Room).cells (⟨6, 1, 8, 106⟩ : Room).slots A = Q
  obtain ⟨hx, hb, hr, hts, hown, hlk, hml⟩ := C
  have hown : s.vm.findClass RX2 = some m.cls := hown
  have hS : va_S A s.heap s.heap [] := va_S.rf
  have hl : lv_has ls 2 [(0, .ref ph), (1, .int (nI tt))] := hl
  have hmu := dm_mul hd
  refine lv_aload_n hx hb dX2_turn_0 rfl (lv_at hl 0 rfl) ?_
  refine lv_iload_n hx hb dX2_turn_1 rfl (lv_at hl 1 rfl) ?_
  refine callVi (As := [.int (nI tt)]) (rest := []) (wc := (PW G ph pd nr nc pL pG pB pk pa pt pm)) (wr := ([] : va_W)) ⟨hx, hb, hml, hown, hts⟩ (m_X2_can l G ph pd nr nc pL pG pB pk pa pt pm tt (by first | assumption | omega) (by first | assumption | omega)) (cwV 1 hts (lw_V q1027 q1028 q1029 q89 q1030) rfl rfl rfl (by decide +kernel) ⟨Nat.le_of_ble_eq_true rfl, Nat.le_of_ble_eq_true rfl⟩) hK hZ hA hP hD hS [0, 1, 2, 3, 4, 5] [] rfl rfl (by decide) (by decide) (by decide) 0 1 rfl rfl rfl hl.1 (Nat.le_of_ble_eq_true rfl) ⟨Nat.le_of_ble_eq_true rfl, Nat.le_of_ble_eq_true rfl⟩ rfl dX2_turn_2 (fun r9 u9 H locs hw9 hP hD hS => ?_)
  subst hw9
  have hP : va_P G.1 CL (PW G ph pd nr nc pL pG pB pk pa pt pm) _ := hP
  have hD : va_D A (PW G ph pd nr nc pL pG pB pk pa pt pm) := hD
  refine b_if_ne (tgt := 12) hx hb dX2_turn_5 (by decide) (fun c5 => ?_) (fun c5 => ?_)
  · skip
    refine lv_iconst (v := nI 0) hx hb dX2_turn_12 (by decide) ?_
    refine lv_iconst (v := nI 1) hx hb dX2_turn_13 (by decide) ?_
    refine lv_iload_n hx hb dX2_turn_14 rfl (lv_at hl 1 rfl) ?_
    refine lv_iconst (v := nI 2) hx hb dX2_turn_15 (by decide) ?_
    refine n_idiv hx hb (by omega) (by omega) (by omega) dX2_turn_16 ?_
    refine callXSNv (As := [.int (nI 0), .int (nI 1), .int (nI (tt / 2))]) (rest := []) (wc := ([] : va_W)) (wr := (PW G ph pd nr nc pL pG pB pk pa pt pm)) ⟨hx, hb, hml, hown, hts⟩ (m_X1_refuse l G false (nI 1) (nI (tt / 2)) (by first | assumption | omega)) (va_cnB 3 hts (lw_meth q1216) rfl rfl rfl (KS.nw hZ q1214 rfl) (hts _ q88) (by decide +kernel) ⟨Nat.le_of_ble_eq_true rfl, Nat.le_of_ble_eq_true rfl⟩) (hts _ q1215) hK hZ hA hP hD hS [] [0, 1, 2, 3, 4, 5] rfl rfl (by decide) (by decide) (by decide) rfl hl.1 (Nat.le_of_ble_eq_true rfl) ⟨Nat.le_of_ble_eq_true rfl, Nat.le_of_ble_eq_true rfl⟩ rfl dX2_turn_17 (fun ce9 q9 u9 H locs hw9 hP hD hS hce hcv hcl => ?_) (fun u9 H locs hw9 hP hD hS => ?_)
    · skip
      have hx17 : false = true := hw9
      have hP : va_P G.1 CL (PW G ph pd nr nc pL pG pB pk pa pt pm ++ RFW G q9 (nI 1) (nI (tt / 2))) _ := hP
      have hD : va_D A (PW G ph pd nr nc pL pG pB pk pa pt pm ++ RFW G q9 (nI 1) (nI (tt / 2))) := hD
      have hcl : s.vm.findClass RX6 = some ce9.cls := hcl
      subst hQ
      refine vx_widen (k := 1) (n := 8) (Nat.le_of_ble_eq_true rfl) (Nat.le_of_ble_eq_true rfl) ?_
      exact out_x (by rw [hnt]; exact fun x9 hx9 => nomatch hx9) hlk () (by first | exact absurd hx17 (by decide) | (simpa using c5)) hP hD hS hce hcv hcl (Nat.le_refl _) (Nat.le_refl _)
    refine W.widen (k := 1) (n := 8) (Nat.le_refl _) (Nat.le_refl _) ?_
    have hw17 : false = false := hw9
    have hP : va_P G.1 CL (PW G ph pd nr nc pL pG pB pk pa pt pm) _ := hP
    have hD : va_D A (PW G ph pd nr nc pL pG pB pk pa pt pm) := hD
    refine lv_aload_n hx hb dX2_turn_20 rfl (lv_at hl 0 rfl) ?_
    refine lv_iload_n hx hb dX2_turn_21 rfl (lv_at hl 1 rfl) ?_
    refine callVi (As := [.int (nI tt)]) (rest := []) (wc := (PW G ph pd nr nc pL pG pB pk pa pt pm)) (wr := ([] : va_W)) ⟨hx, hb, hml, hown, hts⟩ (m_X2_makesTurn l G ph pd nr nc pL pG pB pk pa pt pm tt (by first | assumption | omega) (by first | assumption | omega) (by first | assumption | omega) (by first | assumption | omega)) (cwV 1 hts (lw_V q1284 q1286 qs21 q89 q1287) rfl rfl rfl (by decide +kernel) ⟨Nat.le_of_ble_eq_true rfl, Nat.le_of_ble_eq_true rfl⟩) hK hZ hA hP hD hS [0, 1, 2, 3, 4, 5] [] rfl rfl (by decide) (by decide) (by decide) 0 1 rfl rfl rfl hl.1 (Nat.le_of_ble_eq_true rfl) ⟨Nat.le_of_ble_eq_true rfl, Nat.le_of_ble_eq_true rfl⟩ rfl dX2_turn_22 (fun r9 u9 H locs hw9 hP hD hS => ?_)
    subst hw9
    have hP : va_P G.1 CL (PW G ph pd nr nc (tn nr nc tt pL) pG pB (va_up (va_up pk 0 (pk 0 + 1)) 5 (pk 5 + bI (decide (hm nr nc (tn nr nc tt pL) pG = nr * nc) && !decide (hm nr nc pL pG = nr * nc)))) pa pt pm) _ := hP
    have hD : va_D A (PW G ph pd nr nc (tn nr nc tt pL) pG pB (va_up (va_up pk 0 (pk 0 + 1)) 5 (pk 5 + bI (decide (hm nr nc (tn nr nc tt pL) pG = nr * nc) && !decide (hm nr nc pL pG = nr * nc)))) pa pt pm) := hD
    have e_k : (va_up (va_up pk 0 (pk 0 + 1)) 5 (pk 5 + bI (decide (hm nr nc (tn nr nc tt pL) pG = nr * nc) && !decide (hm nr nc pL pG = nr * nc)))) = (turnK nr nc pL pG pk tt) := rfl
    rw [e_k] at hP hD
    subst hQ
    refine vx_ret ?_
    exact ret_i hx hb hr hlk () ⟨rfl, (by first | exact absurd hw17 (by decide) | (simpa using c5))⟩ hP hD hS rfl dX2_turn_25
  · skip
    refine lv_iconst (v := nI 1) hx hb dX2_turn_8 (by decide) ?_
    refine lv_goto (tgt := 13) hx hb dX2_turn_9 (by decide) ?_
    refine lv_iconst (v := nI 1) hx hb dX2_turn_13 (by decide) ?_
    refine lv_iload_n hx hb dX2_turn_14 rfl (lv_at hl 1 rfl) ?_
    refine lv_iconst (v := nI 2) hx hb dX2_turn_15 (by decide) ?_
    refine n_idiv hx hb (by omega) (by omega) (by omega) dX2_turn_16 ?_
    refine callXSNv (As := [.int (nI 1), .int (nI 1), .int (nI (tt / 2))]) (rest := []) (wc := ([] : va_W)) (wr := (PW G ph pd nr nc pL pG pB pk pa pt pm)) ⟨hx, hb, hml, hown, hts⟩ (m_X1_refuse l G true (nI 1) (nI (tt / 2)) (by first | assumption | omega)) (va_cnB 3 hts (lw_meth q1216) rfl rfl rfl (KS.nw hZ q1214 rfl) (hts _ q88) (by decide +kernel) ⟨Nat.le_of_ble_eq_true rfl, Nat.le_of_ble_eq_true rfl⟩) (hts _ q1215) hK hZ hA hP hD hS [] [0, 1, 2, 3, 4, 5] rfl rfl (by decide) (by decide) (by decide) rfl hl.1 (Nat.le_of_ble_eq_true rfl) ⟨Nat.le_of_ble_eq_true rfl, Nat.le_of_ble_eq_true rfl⟩ rfl dX2_turn_17 (fun ce9 q9 u9 H locs hw9 hP hD hS hce hcv hcl => ?_) (fun u9 H locs hw9 hP hD hS => ?_)
    · skip
      have hx17 : true = true := hw9
      have hP : va_P G.1 CL (PW G ph pd nr nc pL pG pB pk pa pt pm ++ RFW G q9 (nI 1) (nI (tt / 2))) _ := hP
      have hD : va_D A (PW G ph pd nr nc pL pG pB pk pa pt pm ++ RFW G q9 (nI 1) (nI (tt / 2))) := hD
      have hcl : s.vm.findClass RX6 = some ce9.cls := hcl
      subst hQ
      refine vx_widen (k := 1) (n := 8) (Nat.le_of_ble_eq_true rfl) (Nat.le_of_ble_eq_true rfl) ?_
      exact out_x (by rw [hnt]; exact fun x9 hx9 => nomatch hx9) hlk () (by first | exact absurd hx17 (by decide) | (simpa using c5)) hP hD hS hce hcv hcl (Nat.le_refl _) (Nat.le_refl _)
    refine W.widen (k := 1) (n := 8) (Nat.le_refl _) (Nat.le_refl _) ?_
    have hw17 : true = false := hw9
    have hP : va_P G.1 CL (PW G ph pd nr nc pL pG pB pk pa pt pm) _ := hP
    have hD : va_D A (PW G ph pd nr nc pL pG pB pk pa pt pm) := hD
    refine lv_aload_n hx hb dX2_turn_20 rfl (lv_at hl 0 rfl) ?_
    refine lv_iload_n hx hb dX2_turn_21 rfl (lv_at hl 1 rfl) ?_
    refine callVi (As := [.int (nI tt)]) (rest := []) (wc := (PW G ph pd nr nc pL pG pB pk pa pt pm)) (wr := ([] : va_W)) ⟨hx, hb, hml, hown, hts⟩ (m_X2_makesTurn l G ph pd nr nc pL pG pB pk pa pt pm tt (by first | assumption | omega) (by first | assumption | omega) (by first | assumption | omega) (by first | assumption | omega)) (cwV 1 hts (lw_V q1284 q1286 qs21 q89 q1287) rfl rfl rfl (by decide +kernel) ⟨Nat.le_of_ble_eq_true rfl, Nat.le_of_ble_eq_true rfl⟩) hK hZ hA hP hD hS [0, 1, 2, 3, 4, 5] [] rfl rfl (by decide) (by decide) (by decide) 0 1 rfl rfl rfl hl.1 (Nat.le_of_ble_eq_true rfl) ⟨Nat.le_of_ble_eq_true rfl, Nat.le_of_ble_eq_true rfl⟩ rfl dX2_turn_22 (fun r9 u9 H locs hw9 hP hD hS => ?_)
    subst hw9
    have hP : va_P G.1 CL (PW G ph pd nr nc (tn nr nc tt pL) pG pB (va_up (va_up pk 0 (pk 0 + 1)) 5 (pk 5 + bI (decide (hm nr nc (tn nr nc tt pL) pG = nr * nc) && !decide (hm nr nc pL pG = nr * nc)))) pa pt pm) _ := hP
    have hD : va_D A (PW G ph pd nr nc (tn nr nc tt pL) pG pB (va_up (va_up pk 0 (pk 0 + 1)) 5 (pk 5 + bI (decide (hm nr nc (tn nr nc tt pL) pG = nr * nc) && !decide (hm nr nc pL pG = nr * nc)))) pa pt pm) := hD
    have e_k : (va_up (va_up pk 0 (pk 0 + 1)) 5 (pk 5 + bI (decide (hm nr nc (tn nr nc tt pL) pG = nr * nc) && !decide (hm nr nc pL pG = nr * nc)))) = (turnK nr nc pL pG pk tt) := rfl
    rw [e_k] at hP hD
    subst hQ
    refine vx_ret ?_
    exact ret_i hx hb hr hlk () ⟨rfl, (by first | exact absurd hw17 (by decide) | (simpa using c5))⟩ hP hD hS rfl dX2_turn_25
set_option maxHeartbeats 4000000 in
set_option maxRecDepth 100000 in
theorem m_X2_swap (l : Launch) (G : GG) (ph : Nat) (pd : Nat → Nat) (nr : Nat) (nc : Nat) (pL : Nat → Nat) (pG : Nat → Nat) (pB : Nat → Bool) (pk : Nat → Int32) (pa : Nat → Nat) (pt : Nat → Nat) (pm : Nat) (pp : Nat) (pq : Nat) (hd : 2 ≤ nr ∧ nr ≤ 3 ∧ 2 ≤ nc ∧ nc ≤ 3) (hp0 : pp < 9) (hq0 : pq < 9) (hL : ∀ i, pL i < 65536) (hG : ∀ i, pG i < 65536) (hst : l.stackTraces = false) : MX l G yX2_swap cX2_swap 4 (some .int) ⟨6, 1, 8, 102⟩ [.ref ph, .int (nI pp), .int (nI pq)] (PW G ph pd nr nc pL pG pB pk pa pt pm) (Qi_ G (fun (r : Int32) (_ : Unit) => (r = nI (hm nr nc (swL pL pp pq) pG)) ∧ (¬ pp = pq)) (fun (_ : Unit) => (PW G ph pd nr nc (swL pL pp pq) pG pB (va_up pk 1 (pk 1 + 1)) pa pt pm))) (XQ G (fun (_ : Unit) => RX6) (fun (_ : Unit) => pp = pq) (fun (q9 : Nat) (_ : Unit) => (PW G ph pd nr nc pL pG pB pk pa pt pm ++ RFW G q9 (nI 3) (nI pp)))) := by
  refine MX.of (by decide) (Nat.le_of_ble_eq_true rfl) ?_
  intro p e s m args below meth cd A C hini hA hK hZ hP hD hnt ls hl
  generalize hQ : vx_MQ below ((Qi_ G (fun (r : Int32) (_ : Unit) => (r = nI (hm nr nc (swL pL pp pq) pG)) ∧ (¬ pp = pq)) (fun (_ : Unit) => (PW G ph pd nr nc (swL pL pp pq) pG pB (va_up pk 1 (pk 1 + 1)) pa pt pm))) A) ((XQ G (fun (_ : Unit) => RX6) (fun (_ : Unit) => pp = pq) (fun (q9 : Nat) (_ : Unit) => (PW G ph pd nr nc pL pG pB pk pa pt pm ++ RFW G q9 (nI 3) (nI pp)))) A) args s (⟨6, 1, 8, 102⟩ : Room).cells (⟨6, 1, 8, 102⟩ : Room).slots A = Q
  obtain ⟨hx, hb, hr, hts, hown, hlk, hml⟩ := C
  have hown : s.vm.findClass RX2 = some m.cls := hown
  have hS : va_S A s.heap s.heap [] := va_S.rf
  have hl : lv_has ls 4 [(0, .ref ph), (1, .int (nI pp)), (2, .int (nI pq))] := hl
  have hmu := dm_mul hd
  refine lv_iload_n hx hb dX2_swap_0 rfl (lv_at hl 1 rfl) ?_
  refine lv_iload_n hx hb dX2_swap_1 rfl (lv_at hl 2 rfl) ?_
  refine n_cmp_ne (tgt := 9) hx hb dX2_swap_2 (by decide) (by omega) (by omega) (fun c2 => ?_) (fun c2 => ?_)
  · skip
    refine lv_iconst (v := nI 0) hx hb dX2_swap_9 (by decide) ?_
    refine lv_iconst (v := nI 3) hx hb dX2_swap_10 (by decide) ?_
    refine lv_iload_n hx hb dX2_swap_11 rfl (lv_at hl 1 rfl) ?_
    refine callXSNv (As := [.int (nI 0), .int (nI 3), .int (nI pp)]) (rest := []) (wc := ([] : va_W)) (wr := (PW G ph pd nr nc pL pG pB pk pa pt pm)) ⟨hx, hb, hml, hown, hts⟩ (m_X1_refuse l G false (nI 3) (nI pp) (by first | assumption | omega)) (va_cnB 3 hts (lw_meth q1216) rfl rfl rfl (KS.nw hZ q1214 rfl) (hts _ q88) (by decide +kernel) ⟨Nat.le_of_ble_eq_true rfl, Nat.le_of_ble_eq_true rfl⟩) (hts _ q1215) hK hZ hA hP hD hS [] [0, 1, 2, 3, 4, 5] rfl rfl (by decide) (by decide) (by decide) rfl hl.1 (Nat.le_of_ble_eq_true rfl) ⟨Nat.le_of_ble_eq_true rfl, Nat.le_of_ble_eq_true rfl⟩ rfl dX2_swap_12 (fun ce9 q9 u9 H locs hw9 hP hD hS hce hcv hcl => ?_) (fun u9 H locs hw9 hP hD hS => ?_)
    · skip
      have hx12 : false = true := hw9
      have hP : va_P G.1 CL (PW G ph pd nr nc pL pG pB pk pa pt pm ++ RFW G q9 (nI 3) (nI pp)) _ := hP
      have hD : va_D A (PW G ph pd nr nc pL pG pB pk pa pt pm ++ RFW G q9 (nI 3) (nI pp)) := hD
      have hcl : s.vm.findClass RX6 = some ce9.cls := hcl
      subst hQ
      refine vx_widen (k := 1) (n := 8) (Nat.le_of_ble_eq_true rfl) (Nat.le_of_ble_eq_true rfl) ?_
      exact out_x (by rw [hnt]; exact fun x9 hx9 => nomatch hx9) hlk () (by first | exact c2 | exact absurd hx12 (by decide)) hP hD hS hce hcv hcl (Nat.le_refl _) (Nat.le_refl _)
    refine W.widen (k := 1) (n := 8) (Nat.le_refl _) (Nat.le_refl _) ?_
    have hw12 : false = false := hw9
    have hP : va_P G.1 CL (PW G ph pd nr nc pL pG pB pk pa pt pm) _ := hP
    have hD : va_D A (PW G ph pd nr nc pL pG pB pk pa pt pm) := hD
    refine lv_aload_n hx hb dX2_swap_15 rfl (lv_at hl 0 rfl) ?_
    refine va_get (D := G.1) (ci := 1) (v := .ref (pd 0)) (C := RX2) (T := TX2) (N := 14) hx hb hts in_X2 hown hK hP 0 rfl rfl 2 (by decide) (hts _ q145) (fun _ h9 => h9) rfl dX2_swap_16 ?_
    refine lv_iload_n hx hb dX2_swap_19 rfl (lv_at hl 1 rfl) ?_
    refine n_cald hx hb hK hP 1 2 rfl rfl (by omega) (by decide) dX2_swap_20 ?_
    refine lv_istore_n (lv' := [(3, .int (nI (pL pp))), (0, .ref ph), (1, .int (nI pp)), (2, .int (nI pq))]) hx hb dX2_swap_21 rfl hl (by decide) rfl (fun ls hl => ?_)
    refine lv_aload_n hx hb dX2_swap_22 rfl (lv_at hl 1 rfl) ?_
    refine va_get (D := G.1) (ci := 1) (v := .ref (pd 0)) (C := RX2) (T := TX2) (N := 14) hx hb hts in_X2 hown hK hP 0 rfl rfl 2 (by decide) (hts _ q145) (fun _ h9 => h9) rfl dX2_swap_23 ?_
    refine lv_iload_n hx hb dX2_swap_26 rfl (lv_at hl 2 rfl) ?_
    refine lv_aload_n hx hb dX2_swap_27 rfl (lv_at hl 1 rfl) ?_
    refine va_get (D := G.1) (ci := 1) (v := .ref (pd 0)) (C := RX2) (T := TX2) (N := 14) hx hb hts in_X2 hown hK hP 0 rfl rfl 2 (by decide) (hts _ q145) (fun _ h9 => h9) rfl dX2_swap_28 ?_
    refine lv_iload_n hx hb dX2_swap_31 rfl (lv_at hl 3 rfl) ?_
    refine n_cald hx hb hK hP 1 2 rfl rfl (by omega) (by decide) dX2_swap_32 ?_
    refine n_cast hx hb hK hP hD hS 1 2 rfl rfl (by omega) (by decide) (hL _) dX2_swap_33 (fun H locs hP hD hS => ?_)
    have hP : va_P G.1 CL (PW G ph pd nr nc (va_up pL pp (pL pq)) pG pB pk pa pt pm) _ := hP
    have hD : va_D A (PW G ph pd nr nc (va_up pL pp (pL pq)) pG pB pk pa pt pm) := hD
    refine lv_aload_n hx hb dX2_swap_34 rfl (lv_at hl 1 rfl) ?_
    refine va_get (D := G.1) (ci := 1) (v := .ref (pd 0)) (C := RX2) (T := TX2) (N := 14) hx hb hts in_X2 hown hK hP 0 rfl rfl 2 (by decide) (hts _ q145) (fun _ h9 => h9) rfl dX2_swap_35 ?_
    refine lv_iload_n hx hb dX2_swap_38 rfl (lv_at hl 3 rfl) ?_
    refine lv_iload_n hx hb dX2_swap_39 rfl (lv_at hl 0 rfl) ?_
    refine n_cast hx hb hK hP hD hS 1 2 rfl rfl (by omega) (by decide) (hL _) dX2_swap_40 (fun H locs hP hD hS => ?_)
    have hP : va_P G.1 CL (PW G ph pd nr nc (va_up (va_up pL pp (pL pq)) pq (pL pp)) pG pB pk pa pt pm) _ := hP
    have hD : va_D A (PW G ph pd nr nc (va_up (va_up pL pp (pL pq)) pq (pL pp)) pG pB pk pa pt pm) := hD
    refine lv_aload_n hx hb dX2_swap_41 rfl (lv_at hl 1 rfl) ?_
    refine lv_dup hx hb dX2_swap_42 rfl ?_
    refine va_get (D := G.1) (ci := 1) (v := .int (pk 1)) (C := RX2) (T := TX2) (N := 14) hx hb hts in_X2 hown hK hP 0 rfl rfl 6 (by decide) (hts _ q153) (fun _ h9 => h9) rfl dX2_swap_43 ?_
    refine lv_iconst (v := nI 1) hx hb dX2_swap_46 (by decide) ?_
    refine lv_iadd hx hb dX2_swap_47 ?_
    refine va_put (D := G.1) (ci := 1) (v := .int ((pk 1) + (nI 1))) (ty := .int) (C := RX2) (T := TX2) (N := 14) hx hb hts in_X2 tyX2 tyX2_ok nmX2 hown hK hP hD hS 0 rfl rfl 6 (by decide) (hts _ q153) (fun _ h9 => h9) rfl (by decide +kernel) rfl rfl (Nat.le_of_ble_eq_true rfl) dX2_swap_48 (fun H locs hP hD hS => ?_)
    have hP : va_P G.1 CL (PW G ph pd nr nc (va_up (va_up pL pp (pL pq)) pq (pL pp)) pG pB (va_up pk 1 ((pk 1) + (nI 1))) pa pt pm) _ := hP
    have hD : va_D A (PW G ph pd nr nc (va_up (va_up pL pp (pL pq)) pq (pL pp)) pG pB (va_up pk 1 ((pk 1) + (nI 1))) pa pt pm) := hD
    have hP : va_P G.1 CL (PW G ph pd nr nc (swL pL pp pq) pG pB (va_up pk 1 ((pk 1) + (nI 1))) pa pt pm) _ := hP
    have hD : va_D A (PW G ph pd nr nc (swL pL pp pq) pG pB (va_up pk 1 ((pk 1) + (nI 1))) pa pt pm) := hD
    refine lv_aload_n hx hb dX2_swap_51 rfl (lv_at hl 1 rfl) ?_
    refine callVi (As := []) (rest := []) (wc := (PW G ph pd nr nc (swL pL pp pq) pG pB (va_up pk 1 ((pk 1) + (nI 1))) pa pt pm)) (wr := ([] : va_W)) ⟨hx, hb, hml, hown, hts⟩ (m_X2_home l G ph pd nr nc (swL pL pp pq) pG pB (va_up pk 1 ((pk 1) + (nI 1))) pa pt pm (by first | assumption | omega) (up_lt (up_lt hL (hL _)) (hL _)) (by first | assumption | omega)) (cwV 0 hts (lw_V q1059 q510 q511 q89 q512) rfl rfl rfl (by decide +kernel) ⟨Nat.le_of_ble_eq_true rfl, Nat.le_of_ble_eq_true rfl⟩) hK hZ hA hP hD hS [0, 1, 2, 3, 4, 5] [] rfl rfl (by decide) (by decide) (by decide) 0 1 rfl rfl rfl hl.1 (Nat.le_of_ble_eq_true rfl) ⟨Nat.le_of_ble_eq_true rfl, Nat.le_of_ble_eq_true rfl⟩ rfl dX2_swap_52 (fun r9 u9 H locs hw9 hP hD hS => ?_)
    subst hw9
    have hP : va_P G.1 CL (PW G ph pd nr nc (swL pL pp pq) pG pB (va_up pk 1 ((pk 1) + (nI 1))) pa pt pm) _ := hP
    have hD : va_D A (PW G ph pd nr nc (swL pL pp pq) pG pB (va_up pk 1 ((pk 1) + (nI 1))) pa pt pm) := hD
    have e_k : (va_up pk 1 ((pk 1) + (nI 1))) = (va_up pk 1 (pk 1 + 1)) := rfl
    rw [e_k] at hP hD
    subst hQ
    refine vx_ret ?_
    exact ret_i hx hb hr hlk () ⟨rfl, (by first | exact c2 | exact absurd hw12 (by decide))⟩ hP hD hS rfl dX2_swap_55
  · skip
    refine lv_iconst (v := nI 1) hx hb dX2_swap_5 (by decide) ?_
    refine lv_goto (tgt := 10) hx hb dX2_swap_6 (by decide) ?_
    refine lv_iconst (v := nI 3) hx hb dX2_swap_10 (by decide) ?_
    refine lv_iload_n hx hb dX2_swap_11 rfl (lv_at hl 1 rfl) ?_
    refine callXSNv (As := [.int (nI 1), .int (nI 3), .int (nI pp)]) (rest := []) (wc := ([] : va_W)) (wr := (PW G ph pd nr nc pL pG pB pk pa pt pm)) ⟨hx, hb, hml, hown, hts⟩ (m_X1_refuse l G true (nI 3) (nI pp) (by first | assumption | omega)) (va_cnB 3 hts (lw_meth q1216) rfl rfl rfl (KS.nw hZ q1214 rfl) (hts _ q88) (by decide +kernel) ⟨Nat.le_of_ble_eq_true rfl, Nat.le_of_ble_eq_true rfl⟩) (hts _ q1215) hK hZ hA hP hD hS [] [0, 1, 2, 3, 4, 5] rfl rfl (by decide) (by decide) (by decide) rfl hl.1 (Nat.le_of_ble_eq_true rfl) ⟨Nat.le_of_ble_eq_true rfl, Nat.le_of_ble_eq_true rfl⟩ rfl dX2_swap_12 (fun ce9 q9 u9 H locs hw9 hP hD hS hce hcv hcl => ?_) (fun u9 H locs hw9 hP hD hS => ?_)
    · skip
      have hx12 : true = true := hw9
      have hP : va_P G.1 CL (PW G ph pd nr nc pL pG pB pk pa pt pm ++ RFW G q9 (nI 3) (nI pp)) _ := hP
      have hD : va_D A (PW G ph pd nr nc pL pG pB pk pa pt pm ++ RFW G q9 (nI 3) (nI pp)) := hD
      have hcl : s.vm.findClass RX6 = some ce9.cls := hcl
      subst hQ
      refine vx_widen (k := 1) (n := 8) (Nat.le_of_ble_eq_true rfl) (Nat.le_of_ble_eq_true rfl) ?_
      exact out_x (by rw [hnt]; exact fun x9 hx9 => nomatch hx9) hlk () (by first | exact c2 | exact absurd hx12 (by decide)) hP hD hS hce hcv hcl (Nat.le_refl _) (Nat.le_refl _)
    refine W.widen (k := 1) (n := 8) (Nat.le_refl _) (Nat.le_refl _) ?_
    have hw12 : true = false := hw9
    have hP : va_P G.1 CL (PW G ph pd nr nc pL pG pB pk pa pt pm) _ := hP
    have hD : va_D A (PW G ph pd nr nc pL pG pB pk pa pt pm) := hD
    refine lv_aload_n hx hb dX2_swap_15 rfl (lv_at hl 0 rfl) ?_
    refine va_get (D := G.1) (ci := 1) (v := .ref (pd 0)) (C := RX2) (T := TX2) (N := 14) hx hb hts in_X2 hown hK hP 0 rfl rfl 2 (by decide) (hts _ q145) (fun _ h9 => h9) rfl dX2_swap_16 ?_
    refine lv_iload_n hx hb dX2_swap_19 rfl (lv_at hl 1 rfl) ?_
    refine n_cald hx hb hK hP 1 2 rfl rfl (by omega) (by decide) dX2_swap_20 ?_
    refine lv_istore_n (lv' := [(3, .int (nI (pL pp))), (0, .ref ph), (1, .int (nI pp)), (2, .int (nI pq))]) hx hb dX2_swap_21 rfl hl (by decide) rfl (fun ls hl => ?_)
    refine lv_aload_n hx hb dX2_swap_22 rfl (lv_at hl 1 rfl) ?_
    refine va_get (D := G.1) (ci := 1) (v := .ref (pd 0)) (C := RX2) (T := TX2) (N := 14) hx hb hts in_X2 hown hK hP 0 rfl rfl 2 (by decide) (hts _ q145) (fun _ h9 => h9) rfl dX2_swap_23 ?_
    refine lv_iload_n hx hb dX2_swap_26 rfl (lv_at hl 2 rfl) ?_
    refine lv_aload_n hx hb dX2_swap_27 rfl (lv_at hl 1 rfl) ?_
    refine va_get (D := G.1) (ci := 1) (v := .ref (pd 0)) (C := RX2) (T := TX2) (N := 14) hx hb hts in_X2 hown hK hP 0 rfl rfl 2 (by decide) (hts _ q145) (fun _ h9 => h9) rfl dX2_swap_28 ?_
    refine lv_iload_n hx hb dX2_swap_31 rfl (lv_at hl 3 rfl) ?_
    refine n_cald hx hb hK hP 1 2 rfl rfl (by omega) (by decide) dX2_swap_32 ?_
    refine n_cast hx hb hK hP hD hS 1 2 rfl rfl (by omega) (by decide) (hL _) dX2_swap_33 (fun H locs hP hD hS => ?_)
    have hP : va_P G.1 CL (PW G ph pd nr nc (va_up pL pp (pL pq)) pG pB pk pa pt pm) _ := hP
    have hD : va_D A (PW G ph pd nr nc (va_up pL pp (pL pq)) pG pB pk pa pt pm) := hD
    refine lv_aload_n hx hb dX2_swap_34 rfl (lv_at hl 1 rfl) ?_
    refine va_get (D := G.1) (ci := 1) (v := .ref (pd 0)) (C := RX2) (T := TX2) (N := 14) hx hb hts in_X2 hown hK hP 0 rfl rfl 2 (by decide) (hts _ q145) (fun _ h9 => h9) rfl dX2_swap_35 ?_
    refine lv_iload_n hx hb dX2_swap_38 rfl (lv_at hl 3 rfl) ?_
    refine lv_iload_n hx hb dX2_swap_39 rfl (lv_at hl 0 rfl) ?_
    refine n_cast hx hb hK hP hD hS 1 2 rfl rfl (by omega) (by decide) (hL _) dX2_swap_40 (fun H locs hP hD hS => ?_)
    have hP : va_P G.1 CL (PW G ph pd nr nc (va_up (va_up pL pp (pL pq)) pq (pL pp)) pG pB pk pa pt pm) _ := hP
    have hD : va_D A (PW G ph pd nr nc (va_up (va_up pL pp (pL pq)) pq (pL pp)) pG pB pk pa pt pm) := hD
    refine lv_aload_n hx hb dX2_swap_41 rfl (lv_at hl 1 rfl) ?_
    refine lv_dup hx hb dX2_swap_42 rfl ?_
    refine va_get (D := G.1) (ci := 1) (v := .int (pk 1)) (C := RX2) (T := TX2) (N := 14) hx hb hts in_X2 hown hK hP 0 rfl rfl 6 (by decide) (hts _ q153) (fun _ h9 => h9) rfl dX2_swap_43 ?_
    refine lv_iconst (v := nI 1) hx hb dX2_swap_46 (by decide) ?_
    refine lv_iadd hx hb dX2_swap_47 ?_
    refine va_put (D := G.1) (ci := 1) (v := .int ((pk 1) + (nI 1))) (ty := .int) (C := RX2) (T := TX2) (N := 14) hx hb hts in_X2 tyX2 tyX2_ok nmX2 hown hK hP hD hS 0 rfl rfl 6 (by decide) (hts _ q153) (fun _ h9 => h9) rfl (by decide +kernel) rfl rfl (Nat.le_of_ble_eq_true rfl) dX2_swap_48 (fun H locs hP hD hS => ?_)
    have hP : va_P G.1 CL (PW G ph pd nr nc (va_up (va_up pL pp (pL pq)) pq (pL pp)) pG pB (va_up pk 1 ((pk 1) + (nI 1))) pa pt pm) _ := hP
    have hD : va_D A (PW G ph pd nr nc (va_up (va_up pL pp (pL pq)) pq (pL pp)) pG pB (va_up pk 1 ((pk 1) + (nI 1))) pa pt pm) := hD
    have hP : va_P G.1 CL (PW G ph pd nr nc (swL pL pp pq) pG pB (va_up pk 1 ((pk 1) + (nI 1))) pa pt pm) _ := hP
    have hD : va_D A (PW G ph pd nr nc (swL pL pp pq) pG pB (va_up pk 1 ((pk 1) + (nI 1))) pa pt pm) := hD
    refine lv_aload_n hx hb dX2_swap_51 rfl (lv_at hl 1 rfl) ?_
    refine callVi (As := []) (rest := []) (wc := (PW G ph pd nr nc (swL pL pp pq) pG pB (va_up pk 1 ((pk 1) + (nI 1))) pa pt pm)) (wr := ([] : va_W)) ⟨hx, hb, hml, hown, hts⟩ (m_X2_home l G ph pd nr nc (swL pL pp pq) pG pB (va_up pk 1 ((pk 1) + (nI 1))) pa pt pm (by first | assumption | omega) (up_lt (up_lt hL (hL _)) (hL _)) (by first | assumption | omega)) (cwV 0 hts (lw_V q1059 q510 q511 q89 q512) rfl rfl rfl (by decide +kernel) ⟨Nat.le_of_ble_eq_true rfl, Nat.le_of_ble_eq_true rfl⟩) hK hZ hA hP hD hS [0, 1, 2, 3, 4, 5] [] rfl rfl (by decide) (by decide) (by decide) 0 1 rfl rfl rfl hl.1 (Nat.le_of_ble_eq_true rfl) ⟨Nat.le_of_ble_eq_true rfl, Nat.le_of_ble_eq_true rfl⟩ rfl dX2_swap_52 (fun r9 u9 H locs hw9 hP hD hS => ?_)
    subst hw9
    have hP : va_P G.1 CL (PW G ph pd nr nc (swL pL pp pq) pG pB (va_up pk 1 ((pk 1) + (nI 1))) pa pt pm) _ := hP
    have hD : va_D A (PW G ph pd nr nc (swL pL pp pq) pG pB (va_up pk 1 ((pk 1) + (nI 1))) pa pt pm) := hD
    have e_k : (va_up pk 1 ((pk 1) + (nI 1))) = (va_up pk 1 (pk 1 + 1)) := rfl
    rw [e_k] at hP hD
    subst hQ
    refine vx_ret ?_
    exact ret_i hx hb hr hlk () ⟨rfl, (by first | exact c2 | exact absurd hw12 (by decide))⟩ hP hD hS rfl dX2_swap_55
set_option maxHeartbeats 4000000 in
set_option maxRecDepth 100000 in
theorem m_X2_step (l : Launch) (G : GG) (ph : Nat) (pd : Nat → Nat) (nr : Nat) (nc : Nat) (pL : Nat → Nat) (pG : Nat → Nat) (pB : Nat → Bool) (pk : Nat → Int32) (pa : Nat → Nat) (pt : Nat → Nat) (pm : Nat) (hd : 2 ≤ nr ∧ nr ≤ 3 ∧ 2 ≤ nc ∧ nc ≤ 3) (hL : ∀ i, pL i < 65536) (hG : ∀ i, pG i < 65536) (hA0 : ∀ i, pa i < 65536) (hT0 : ∀ i, pt i < 100) (hLR : ∀ q, q < nr * nc → 97 ≤ pL q ∧ pL q ≤ 108) (hKR : ∀ q, q < nr * nc → pG q = 46 ∨ (97 ≤ pG q ∧ pG q ≤ 108)) (hst : l.stackTraces = false) : MX l G yX2_step cX2_step 4 (some .int) ⟨8, 3, 25, 176⟩ [.ref ph] (PW G ph pd nr nc pL pG pB pk pa pt pm) (Qi_ G (fun (r : Int32) (u : (Nat → Nat) × (Nat → Nat) × (Nat)) => (r = (stV nr nc pL pG pB)) ∧ (((¬ hm nr nc pL pG = nr * nc) ∧ otN nr nc pL pG = false) ∧ (∀ i, u.1 i < 65536) ∧ ∀ i, u.2.1 i < 100)) (fun (u : (Nat → Nat) × (Nat → Nat) × (Nat)) => (PW G ph pd nr nc (stL nr nc pL pG pB) pG pB (stK nr nc pL pG pB pk) u.1 u.2.1 u.2.2))) (XQ G (fun (u : (Int32) × (Int32)) => RX6) (fun (u : (Int32) × (Int32)) => (hm nr nc pL pG = nr * nc ∧ u.1 = nI 5 ∧ u.2 = nI (nr * nc)) ∨ ((¬ hm nr nc pL pG = nr * nc) ∧ otN nr nc pL pG = true ∧ u.1 = nI 4 ∧ u.2 = nI (nr * nc - hm nr nc pL pG))) (fun (q9 : Nat) (u : (Int32) × (Int32)) => (PW G ph pd nr nc pL pG pB pk pa pt pm ++ RFW G q9 u.1 u.2))) := by
  refine MX.of (by decide) (Nat.le_of_ble_eq_true rfl) ?_
  intro p e s m args below meth cd A C hini hA hK hZ hP hD hnt ls hl
  generalize hQ : vx_MQ below ((Qi_ G (fun (r : Int32) (u : (Nat → Nat) × (Nat → Nat) × (Nat)) => (r = (stV nr nc pL pG pB)) ∧ (((¬ hm nr nc pL pG = nr * nc) ∧ otN nr nc pL pG = false) ∧ (∀ i, u.1 i < 65536) ∧ ∀ i, u.2.1 i < 100)) (fun (u : (Nat → Nat) × (Nat → Nat) × (Nat)) => (PW G ph pd nr nc (stL nr nc pL pG pB) pG pB (stK nr nc pL pG pB pk) u.1 u.2.1 u.2.2))) A) ((XQ G (fun (u : (Int32) × (Int32)) => RX6) (fun (u : (Int32) × (Int32)) => (hm nr nc pL pG = nr * nc ∧ u.1 = nI 5 ∧ u.2 = nI (nr * nc)) ∨ ((¬ hm nr nc pL pG = nr * nc) ∧ otN nr nc pL pG = true ∧ u.1 = nI 4 ∧ u.2 = nI (nr * nc - hm nr nc pL pG))) (fun (q9 : Nat) (u : (Int32) × (Int32)) => (PW G ph pd nr nc pL pG pB pk pa pt pm ++ RFW G q9 u.1 u.2))) A) args s (⟨8, 3, 25, 176⟩ : Room).cells (⟨8, 3, 25, 176⟩ : Room).slots A = Q
  obtain ⟨hx, hb, hr, hts, hown, hlk, hml⟩ := C
  have hown : s.vm.findClass RX2 = some m.cls := hown
  have hS : va_S A s.heap s.heap [] := va_S.rf
  have hl : lv_has ls 4 [(0, .ref ph)] := hl
  have hmu := dm_mul hd
  have ha9 : awZ nr nc pL pG pB ≤ 4 := awN_le _
  refine lv_aload_n hx hb dX2_step_0 rfl (lv_at hl 0 rfl) ?_
  refine callVi (As := []) (rest := []) (wc := (PW G ph pd nr nc pL pG pB pk pa pt pm)) (wr := ([] : va_W)) ⟨hx, hb, hml, hown, hts⟩ (m_X2_isReached l G ph pd nr nc pL pG pB pk pa pt pm (by first | assumption | omega) (by first | assumption | omega) (by first | assumption | omega)) (cwV 0 hts (lw_V q1055 q1056 q1057 q89 q1058) rfl rfl rfl (by decide +kernel) ⟨Nat.le_of_ble_eq_true rfl, Nat.le_of_ble_eq_true rfl⟩) hK hZ hA hP hD hS [0, 1, 2, 3, 4, 5] [] rfl rfl (by decide) (by decide) (by decide) 0 1 rfl rfl rfl hl.1 (Nat.le_of_ble_eq_true rfl) ⟨Nat.le_of_ble_eq_true rfl, Nat.le_of_ble_eq_true rfl⟩ rfl dX2_step_1 (fun r9 u9 H locs hw9 hP hD hS => ?_)
  subst hw9
  have hP : va_P G.1 CL (PW G ph pd nr nc pL pG pB pk pa pt pm) _ := hP
  have hD : va_D A (PW G ph pd nr nc pL pG pB pk pa pt pm) := hD
  refine lv_iconst (v := nI 5) hx hb dX2_step_4 (by decide) ?_
  refine lv_aload_n hx hb dX2_step_5 rfl (lv_at hl 0 rfl) ?_
  refine callVi (As := []) (rest := [.int (nI 5), .int (bI (decide (hm nr nc pL pG = nr * nc)))]) (wc := (PW G ph pd nr nc pL pG pB pk pa pt pm)) (wr := ([] : va_W)) ⟨hx, hb, hml, hown, hts⟩ (m_X2_places l G ph pd nr nc pL pG pB pk pa pt pm ) (cwV 0 hts (lw_V q474 q475 q476 q89 q477) rfl rfl rfl (by decide +kernel) ⟨Nat.le_of_ble_eq_true rfl, Nat.le_of_ble_eq_true rfl⟩) hK hZ hA hP hD hS [0, 1, 2, 3, 4, 5] [] rfl rfl (by decide) (by decide) (by decide) 0 1 rfl rfl rfl hl.1 (Nat.le_of_ble_eq_true rfl) ⟨Nat.le_of_ble_eq_true rfl, Nat.le_of_ble_eq_true rfl⟩ rfl dX2_step_6 (fun r9 u9 H locs hw9 hP hD hS => ?_)
  subst hw9
  have hP : va_P G.1 CL (PW G ph pd nr nc pL pG pB pk pa pt pm) _ := hP
  have hD : va_D A (PW G ph pd nr nc pL pG pB pk pa pt pm) := hD
  refine callXSNv (As := [.int (bI (decide (hm nr nc pL pG = nr * nc))), .int (nI 5), .int (nI (nr * nc))]) (rest := []) (wc := ([] : va_W)) (wr := (PW G ph pd nr nc pL pG pB pk pa pt pm)) ⟨hx, hb, hml, hown, hts⟩ (m_X1_refuse l G (decide (hm nr nc pL pG = nr * nc)) (nI 5) (nI (nr * nc)) (by first | assumption | omega)) (va_cnB 3 hts (lw_meth q1216) rfl rfl rfl (KS.nw hZ q1214 rfl) (hts _ q88) (by decide +kernel) ⟨Nat.le_of_ble_eq_true rfl, Nat.le_of_ble_eq_true rfl⟩) (hts _ q1215) hK hZ hA hP hD hS [] [0, 1, 2, 3, 4, 5] rfl rfl (by decide) (by decide) (by decide) rfl hl.1 (Nat.le_of_ble_eq_true rfl) ⟨Nat.le_of_ble_eq_true rfl, Nat.le_of_ble_eq_true rfl⟩ rfl dX2_step_9 (fun ce9 q9 u9 H locs hw9 hP hD hS hce hcv hcl => ?_) (fun u9 H locs hw9 hP hD hS => ?_)
  · skip
    have hx9 : (decide (hm nr nc pL pG = nr * nc)) = true := hw9
    have hP : va_P G.1 CL (PW G ph pd nr nc pL pG pB pk pa pt pm ++ RFW G q9 (nI 5) (nI (nr * nc))) _ := hP
    have hD : va_D A (PW G ph pd nr nc pL pG pB pk pa pt pm ++ RFW G q9 (nI 5) (nI (nr * nc))) := hD
    have hcl : s.vm.findClass RX6 = some ce9.cls := hcl
    subst hQ
    refine vx_widen (k := 3) (n := 25) (Nat.le_of_ble_eq_true rfl) (Nat.le_of_ble_eq_true rfl) ?_
    exact out_x (by rw [hnt]; exact fun x9 hx9 => nomatch hx9) hlk ⟨(nI 5), (nI (nr * nc))⟩ (Or.inl ⟨of_decide_eq_true hx9, rfl, rfl⟩) hP hD hS hce hcv hcl (Nat.le_refl _) (Nat.le_refl _)
  refine W.widen (k := 1) (n := 8) (Nat.le_refl _) (Nat.le_refl _) ?_
  have hwr : (decide (hm nr nc pL pG = nr * nc)) = false := hw9
  have hP : va_P G.1 CL (PW G ph pd nr nc pL pG pB pk pa pt pm) _ := hP
  have hD : va_D A (PW G ph pd nr nc pL pG pB pk pa pt pm) := hD
  refine lv_aload_n hx hb dX2_step_12 rfl (lv_at hl 0 rfl) ?_
  refine callVi (As := []) (rest := []) (wc := (PW G ph pd nr nc pL pG pB pk pa pt pm)) (wr := ([] : va_W)) ⟨hx, hb, hml, hown, hts⟩ (m_X2_isOut l G ph pd nr nc pL pG pB pk pa pt pm (by first | assumption | omega) (by first | assumption | omega) (by first | assumption | omega) (fun h9 => ho_lt (by omega) hLR hKR h9)) (cwV 0 hts (lw_V q1060 q467 q468 q89 q469) rfl rfl rfl (by decide +kernel) ⟨Nat.le_of_ble_eq_true rfl, Nat.le_of_ble_eq_true rfl⟩) hK hZ hA hP hD hS [0, 1, 2, 3, 4, 5] [] rfl rfl (by decide) (by decide) (by decide) 0 1 rfl rfl rfl hl.1 (Nat.le_of_ble_eq_true rfl) ⟨Nat.le_of_ble_eq_true rfl, Nat.le_of_ble_eq_true rfl⟩ rfl dX2_step_13 (fun r9 u9 H locs hw9 hP hD hS => ?_)
  refine W.widen (k := 2) (n := 17) (Nat.le_refl _) (Nat.le_refl _) ?_
  subst hw9
  have hP : va_P G.1 CL (PW G ph pd nr nc pL pG pB pk pa pt pm) _ := hP
  have hD : va_D A (PW G ph pd nr nc pL pG pB pk pa pt pm) := hD
  refine lv_iconst (v := nI 4) hx hb dX2_step_16 (by decide) ?_
  refine lv_aload_n hx hb dX2_step_17 rfl (lv_at hl 0 rfl) ?_
  refine callVi (As := []) (rest := [.int (nI 4), .int (bI (otN nr nc pL pG))]) (wc := (PW G ph pd nr nc pL pG pB pk pa pt pm)) (wr := ([] : va_W)) ⟨hx, hb, hml, hown, hts⟩ (m_X2_places l G ph pd nr nc pL pG pB pk pa pt pm ) (cwV 0 hts (lw_V q474 q475 q476 q89 q477) rfl rfl rfl (by decide +kernel) ⟨Nat.le_of_ble_eq_true rfl, Nat.le_of_ble_eq_true rfl⟩) hK hZ hA hP hD hS [0, 1, 2, 3, 4, 5] [] rfl rfl (by decide) (by decide) (by decide) 0 1 rfl rfl rfl hl.1 (Nat.le_of_ble_eq_true rfl) ⟨Nat.le_of_ble_eq_true rfl, Nat.le_of_ble_eq_true rfl⟩ rfl dX2_step_18 (fun r9 u9 H locs hw9 hP hD hS => ?_)
  subst hw9
  have hP : va_P G.1 CL (PW G ph pd nr nc pL pG pB pk pa pt pm) _ := hP
  have hD : va_D A (PW G ph pd nr nc pL pG pB pk pa pt pm) := hD
  refine lv_aload_n hx hb dX2_step_21 rfl (lv_at hl 0 rfl) ?_
  refine callVi (As := []) (rest := [.int (nI (nr * nc)), .int (nI 4), .int (bI (otN nr nc pL pG))]) (wc := (PW G ph pd nr nc pL pG pB pk pa pt pm)) (wr := ([] : va_W)) ⟨hx, hb, hml, hown, hts⟩ (m_X2_home l G ph pd nr nc pL pG pB pk pa pt pm (by first | assumption | omega) (by first | assumption | omega) (by first | assumption | omega)) (cwV 0 hts (lw_V q1059 q510 q511 q89 q512) rfl rfl rfl (by decide +kernel) ⟨Nat.le_of_ble_eq_true rfl, Nat.le_of_ble_eq_true rfl⟩) hK hZ hA hP hD hS [0, 1, 2, 3, 4, 5] [] rfl rfl (by decide) (by decide) (by decide) 0 1 rfl rfl rfl hl.1 (Nat.le_of_ble_eq_true rfl) ⟨Nat.le_of_ble_eq_true rfl, Nat.le_of_ble_eq_true rfl⟩ rfl dX2_step_22 (fun r9 u9 H locs hw9 hP hD hS => ?_)
  subst hw9
  have hP : va_P G.1 CL (PW G ph pd nr nc pL pG pB pk pa pt pm) _ := hP
  have hD : va_D A (PW G ph pd nr nc pL pG pB pk pa pt pm) := hD
  refine n_isub hx hb (hm_le _ _ _ _) dX2_step_25 ?_
  refine callXSNv (As := [.int (bI (otN nr nc pL pG)), .int (nI 4), .int (nI ((nr * nc) - (hm nr nc pL pG)))]) (rest := []) (wc := ([] : va_W)) (wr := (PW G ph pd nr nc pL pG pB pk pa pt pm)) ⟨hx, hb, hml, hown, hts⟩ (m_X1_refuse l G (otN nr nc pL pG) (nI 4) (nI ((nr * nc) - (hm nr nc pL pG))) (by first | assumption | omega)) (va_cnB 3 hts (lw_meth q1216) rfl rfl rfl (KS.nw hZ q1214 rfl) (hts _ q88) (by decide +kernel) ⟨Nat.le_of_ble_eq_true rfl, Nat.le_of_ble_eq_true rfl⟩) (hts _ q1215) hK hZ hA hP hD hS [] [0, 1, 2, 3, 4, 5] rfl rfl (by decide) (by decide) (by decide) rfl hl.1 (Nat.le_of_ble_eq_true rfl) ⟨Nat.le_of_ble_eq_true rfl, Nat.le_of_ble_eq_true rfl⟩ rfl dX2_step_26 (fun ce9 q9 u9 H locs hw9 hP hD hS hce hcv hcl => ?_) (fun u9 H locs hw9 hP hD hS => ?_)
  · skip
    have hx26 : (otN nr nc pL pG) = true := hw9
    have hP : va_P G.1 CL (PW G ph pd nr nc pL pG pB pk pa pt pm ++ RFW G q9 (nI 4) (nI ((nr * nc) - (hm nr nc pL pG)))) _ := hP
    have hD : va_D A (PW G ph pd nr nc pL pG pB pk pa pt pm ++ RFW G q9 (nI 4) (nI ((nr * nc) - (hm nr nc pL pG)))) := hD
    have hcl : s.vm.findClass RX6 = some ce9.cls := hcl
    subst hQ
    refine vx_widen (k := 3) (n := 25) (Nat.le_of_ble_eq_true rfl) (Nat.le_of_ble_eq_true rfl) ?_
    exact out_x (by rw [hnt]; exact fun x9 hx9 => nomatch hx9) hlk ⟨(nI 4), (nI (nr * nc - hm nr nc pL pG))⟩ (Or.inr ⟨of_decide_eq_false hwr, hx26, rfl, rfl⟩) hP hD hS hce hcv hcl (Nat.le_refl _) (Nat.le_refl _)
  refine W.widen (k := 3) (n := 25) (Nat.le_refl _) (Nat.le_refl _) ?_
  have hw26 : (otN nr nc pL pG) = false := hw9
  have hP : va_P G.1 CL (PW G ph pd nr nc pL pG pB pk pa pt pm) _ := hP
  have hD : va_D A (PW G ph pd nr nc pL pG pB pk pa pt pm) := hD
  have hnr9 : ¬ hm nr nc pL pG = nr * nc := of_decide_eq_false hwr
  have ha0 := aw_pos (B := pB) hnr9
  refine lv_aload_n hx hb dX2_step_29 rfl (lv_at hl 0 rfl) ?_
  refine callVi (As := []) (rest := []) (wc := (PW G ph pd nr nc pL pG pB pk pa pt pm)) (wr := ([] : va_W)) ⟨hx, hb, hml, hown, hts⟩ (m_X2_away l G ph pd nr nc pL pG pB pk pa pt pm (by first | assumption | omega) (by first | assumption | omega) (by first | assumption | omega) (by first | assumption | omega) (by first | assumption | omega)) (cwV 0 hts (lw_V q1009 q1010 q1011 q89 q1012) rfl rfl rfl (by decide +kernel) ⟨Nat.le_of_ble_eq_true rfl, Nat.le_of_ble_eq_true rfl⟩) hK hZ hA hP hD hS [0, 1, 2, 3, 4, 5] [] rfl rfl (by decide) (by decide) (by decide) 0 1 rfl rfl rfl hl.1 (Nat.le_of_ble_eq_true rfl) ⟨Nat.le_of_ble_eq_true rfl, Nat.le_of_ble_eq_true rfl⟩ rfl dX2_step_30 (fun r9 u9 H locs hw9 hP hD hS => ?_)
  obtain ⟨a1_10, t1_10, n1_10⟩ := u9
  obtain ⟨hr9, hw30⟩ := hw9
  subst hr9
  have hw30 : (∀ i, a1_10 i < 65536) ∧ ∀ i, t1_10 i < 100 := hw30
  have hP : va_P G.1 CL (PW G ph pd nr nc pL pG pB pk a1_10 t1_10 n1_10) _ := hP
  have hD : va_D A (PW G ph pd nr nc pL pG pB pk a1_10 t1_10 n1_10) := hD
  refine lv_istore_n (lv' := [(1, .int (oN 4 (awN (fun d => rch nr nc pB pG d pL)))), (0, .ref ph)]) hx hb dX2_step_33 rfl hl (by decide) rfl (fun ls hl => ?_)
  refine lv_iload_n hx hb dX2_step_34 rfl (lv_at hl 0 rfl) ?_
  refine lv_iconst (v := (-1)) hx hb dX2_step_35 (by decide) ?_
  refine lv_icmp_ne (tgt := 41) hx hb dX2_step_36 (by decide) (fun c36 => ?_) (fun c36 => ?_)
  · skip
    have h49 : ¬ awZ nr nc pL pG pB = 4 := fun z => c36 (show oN 4 (awZ nr nc pL pG pB) = -1 by rw [z]; rfl)
    refine lv_aload_n hx hb dX2_step_41 rfl (lv_at hl 1 rfl) ?_
    refine lv_iload_n hx hb dX2_step_42 rfl (lv_at hl 0 rfl) ?_
    rcases (show awZ nr nc pL pG pB = 1 ∨ awZ nr nc pL pG pB = 2 ∨ awZ nr nc pL pG pB = 3 by omega) with hd9 | hd9 | hd9
    · skip
      refine eq_i (y := nI 1) (show oN 4 (awZ nr nc pL pG pB) = _ by rw [hd9]; rfl) ?_
      refine callVi (As := [.int (nI 1)]) (rest := []) (wc := (PW G ph pd nr nc pL pG pB pk a1_10 t1_10 n1_10)) (wr := ([] : va_W)) ⟨hx, hb, hml, hown, hts⟩ (m_X2_firstTurn__1 l G ph pd nr nc pL pG pB pk a1_10 t1_10 n1_10 (by first | assumption | omega) (by first | assumption | omega) (by first | assumption | omega)) (cwV 1 hts (lw_V q1344 q1345 q1346 q89 q1347) rfl rfl rfl (by decide +kernel) ⟨Nat.le_of_ble_eq_true rfl, Nat.le_of_ble_eq_true rfl⟩) hK hZ hA hP hD hS [0, 1, 2, 3, 4, 5] [] rfl rfl (by decide) (by decide) (by decide) 0 1 rfl rfl rfl hl.1 (Nat.le_of_ble_eq_true rfl) ⟨Nat.le_of_ble_eq_true rfl, Nat.le_of_ble_eq_true rfl⟩ rfl dX2_step_43 (fun r9 u9 H locs hw9 hP hD hS => ?_)
      subst hw9
      have hP : va_P G.1 CL (PW G ph pd nr nc pL pG pB pk a1_10 t1_10 n1_10) _ := hP
      have hD : va_D A (PW G ph pd nr nc pL pG pB pk a1_10 t1_10 n1_10) := hD
      have hft : stF nr nc pL pG pB = (ftN nr nc pB pL pG 0) := by unfold stF; rw [hd9]
      refine lv_istore_n (lv' := [(2, .int (oN (2 * (nr + nc)) (ftN nr nc pB pL pG 0))), (1, .int (oN 4 (awN (fun d => rch nr nc pB pG d pL)))), (0, .ref ph)]) hx hb dX2_step_46 rfl hl (by decide) rfl (fun ls hl => ?_)
      refine lv_aload_n hx hb dX2_step_47 rfl (lv_at hl 2 rfl) ?_
      refine lv_iload_n hx hb dX2_step_48 rfl (lv_at hl 0 rfl) ?_
      refine eq_i (y := nI (ftN nr nc pB pL pG 0)) (oN_lt (hft ▸ ft_lt (by omega) ha0 (by omega))) ?_
      refine callVi (As := [.int (nI (ftN nr nc pB pL pG 0))]) (rest := []) (wc := (PW G ph pd nr nc pL pG pB pk a1_10 t1_10 n1_10)) (wr := ([] : va_W)) ⟨hx, hb, hml, hown, hts⟩ (m_X2_makesTurn l G ph pd nr nc pL pG pB pk a1_10 t1_10 n1_10 (ftN nr nc pB pL pG 0) (by first | assumption | omega) (hft ▸ ft_lt (by omega) ha0 (by omega)) (by first | assumption | omega) (by first | assumption | omega)) (cwV 1 hts (lw_V q1284 q1286 qs21 q89 q1287) rfl rfl rfl (by decide +kernel) ⟨Nat.le_of_ble_eq_true rfl, Nat.le_of_ble_eq_true rfl⟩) hK hZ hA hP hD hS [0, 1, 2, 3, 4, 5] [] rfl rfl (by decide) (by decide) (by decide) 0 1 rfl rfl rfl hl.1 (Nat.le_of_ble_eq_true rfl) ⟨Nat.le_of_ble_eq_true rfl, Nat.le_of_ble_eq_true rfl⟩ rfl dX2_step_49 (fun r9 u9 H locs hw9 hP hD hS => ?_)
      subst hw9
      have hP : va_P G.1 CL (PW G ph pd nr nc (tn nr nc (ftN nr nc pB pL pG 0) pL) pG pB (va_up (va_up pk 0 (pk 0 + 1)) 5 (pk 5 + bI (decide (hm nr nc (tn nr nc (ftN nr nc pB pL pG 0) pL) pG = nr * nc) && !decide (hm nr nc pL pG = nr * nc)))) a1_10 t1_10 n1_10) _ := hP
      have hD : va_D A (PW G ph pd nr nc (tn nr nc (ftN nr nc pB pL pG 0) pL) pG pB (va_up (va_up pk 0 (pk 0 + 1)) 5 (pk 5 + bI (decide (hm nr nc (tn nr nc (ftN nr nc pB pL pG 0) pL) pG = nr * nc) && !decide (hm nr nc pL pG = nr * nc)))) a1_10 t1_10 n1_10) := hD
      refine lv_istore_n (lv' := [(3, .int (nI (hm nr nc (tn nr nc (ftN nr nc pB pL pG 0) pL) pG))), (2, .int (oN (2 * (nr + nc)) (ftN nr nc pB pL pG 0))), (1, .int (oN 4 (awN (fun d => rch nr nc pB pG d pL)))), (0, .ref ph)]) hx hb dX2_step_52 rfl hl (by decide) rfl (fun ls hl => ?_)
      refine lv_aload_n hx hb dX2_step_53 rfl (lv_at hl 3 rfl) ?_
      refine lv_dup hx hb dX2_step_54 rfl ?_
      refine va_get (D := G.1) (ci := 1) (v := .int ((va_up (va_up pk 0 (pk 0 + 1)) 5 (pk 5 + bI (decide (hm nr nc (tn nr nc (ftN nr nc pB pL pG 0) pL) pG = nr * nc) && !decide (hm nr nc pL pG = nr * nc)))) 3)) (C := RX2) (T := TX2) (N := 14) hx hb hts in_X2 hown hK hP 0 rfl rfl 8 (by decide) (hts _ q157) (fun _ h9 => h9) rfl dX2_step_55 ?_
      refine lv_iconst (v := nI 1) hx hb dX2_step_58 (by decide) ?_
      refine lv_iadd hx hb dX2_step_59 ?_
      refine va_put (D := G.1) (ci := 1) (v := .int (((va_up (va_up pk 0 (pk 0 + 1)) 5 (pk 5 + bI (decide (hm nr nc (tn nr nc (ftN nr nc pB pL pG 0) pL) pG = nr * nc) && !decide (hm nr nc pL pG = nr * nc)))) 3) + (nI 1))) (ty := .int) (C := RX2) (T := TX2) (N := 14) hx hb hts in_X2 tyX2 tyX2_ok nmX2 hown hK hP hD hS 0 rfl rfl 8 (by decide) (hts _ q157) (fun _ h9 => h9) rfl (by decide +kernel) rfl rfl (Nat.le_of_ble_eq_true rfl) dX2_step_60 (fun H locs hP hD hS => ?_)
      have hP : va_P G.1 CL (PW G ph pd nr nc (tn nr nc (ftN nr nc pB pL pG 0) pL) pG pB (va_up (va_up (va_up pk 0 (pk 0 + 1)) 5 (pk 5 + bI (decide (hm nr nc (tn nr nc (ftN nr nc pB pL pG 0) pL) pG = nr * nc) && !decide (hm nr nc pL pG = nr * nc)))) 3 (((va_up (va_up pk 0 (pk 0 + 1)) 5 (pk 5 + bI (decide (hm nr nc (tn nr nc (ftN nr nc pB pL pG 0) pL) pG = nr * nc) && !decide (hm nr nc pL pG = nr * nc)))) 3) + (nI 1))) a1_10 t1_10 n1_10) _ := hP
      have hD : va_D A (PW G ph pd nr nc (tn nr nc (ftN nr nc pB pL pG 0) pL) pG pB (va_up (va_up (va_up pk 0 (pk 0 + 1)) 5 (pk 5 + bI (decide (hm nr nc (tn nr nc (ftN nr nc pB pL pG 0) pL) pG = nr * nc) && !decide (hm nr nc pL pG = nr * nc)))) 3 (((va_up (va_up pk 0 (pk 0 + 1)) 5 (pk 5 + bI (decide (hm nr nc (tn nr nc (ftN nr nc pB pL pG 0) pL) pG = nr * nc) && !decide (hm nr nc pL pG = nr * nc)))) 3) + (nI 1))) a1_10 t1_10 n1_10) := hD
      refine lv_iload_n hx hb dX2_step_63 rfl (lv_at hl 1 rfl) ?_
      refine eq_i (y := nI (ftN nr nc pB pL pG 0)) (oN_lt (hft ▸ ft_lt (by omega) ha0 (by omega))) ?_
      subst hQ
      rw [stV, stL, stK, if_neg h49, if_neg h49, if_neg h49, hft]
      refine vx_ret ?_
      exact ret_i hx hb hr hlk (⟨a1_10, t1_10, n1_10⟩) ⟨rfl, ⟨⟨hnr9, hw26⟩, hw30⟩⟩ hP hD hS rfl dX2_step_64
    · skip
      refine eq_i (y := nI 2) (show oN 4 (awZ nr nc pL pG pB) = _ by rw [hd9]; rfl) ?_
      refine callVi (As := [.int (nI 2)]) (rest := []) (wc := (PW G ph pd nr nc pL pG pB pk a1_10 t1_10 n1_10)) (wr := ([] : va_W)) ⟨hx, hb, hml, hown, hts⟩ (m_X2_firstTurn__2 l G ph pd nr nc pL pG pB pk a1_10 t1_10 n1_10 (by first | assumption | omega) (by first | assumption | omega) (by first | assumption | omega)) (cwV 1 hts (lw_V q1344 q1345 q1346 q89 q1347) rfl rfl rfl (by decide +kernel) ⟨Nat.le_of_ble_eq_true rfl, Nat.le_of_ble_eq_true rfl⟩) hK hZ hA hP hD hS [0, 1, 2, 3, 4, 5] [] rfl rfl (by decide) (by decide) (by decide) 0 1 rfl rfl rfl hl.1 (Nat.le_of_ble_eq_true rfl) ⟨Nat.le_of_ble_eq_true rfl, Nat.le_of_ble_eq_true rfl⟩ rfl dX2_step_43 (fun r9 u9 H locs hw9 hP hD hS => ?_)
      subst hw9
      have hP : va_P G.1 CL (PW G ph pd nr nc pL pG pB pk a1_10 t1_10 n1_10) _ := hP
      have hD : va_D A (PW G ph pd nr nc pL pG pB pk a1_10 t1_10 n1_10) := hD
      have hft : stF nr nc pL pG pB = (ftN nr nc pB pL pG 1) := by unfold stF; rw [hd9]
      refine lv_istore_n (lv' := [(2, .int (oN (2 * (nr + nc)) (ftN nr nc pB pL pG 1))), (1, .int (oN 4 (awN (fun d => rch nr nc pB pG d pL)))), (0, .ref ph)]) hx hb dX2_step_46 rfl hl (by decide) rfl (fun ls hl => ?_)
      refine lv_aload_n hx hb dX2_step_47 rfl (lv_at hl 2 rfl) ?_
      refine lv_iload_n hx hb dX2_step_48 rfl (lv_at hl 0 rfl) ?_
      refine eq_i (y := nI (ftN nr nc pB pL pG 1)) (oN_lt (hft ▸ ft_lt (by omega) ha0 (by omega))) ?_
      refine callVi (As := [.int (nI (ftN nr nc pB pL pG 1))]) (rest := []) (wc := (PW G ph pd nr nc pL pG pB pk a1_10 t1_10 n1_10)) (wr := ([] : va_W)) ⟨hx, hb, hml, hown, hts⟩ (m_X2_makesTurn l G ph pd nr nc pL pG pB pk a1_10 t1_10 n1_10 (ftN nr nc pB pL pG 1) (by first | assumption | omega) (hft ▸ ft_lt (by omega) ha0 (by omega)) (by first | assumption | omega) (by first | assumption | omega)) (cwV 1 hts (lw_V q1284 q1286 qs21 q89 q1287) rfl rfl rfl (by decide +kernel) ⟨Nat.le_of_ble_eq_true rfl, Nat.le_of_ble_eq_true rfl⟩) hK hZ hA hP hD hS [0, 1, 2, 3, 4, 5] [] rfl rfl (by decide) (by decide) (by decide) 0 1 rfl rfl rfl hl.1 (Nat.le_of_ble_eq_true rfl) ⟨Nat.le_of_ble_eq_true rfl, Nat.le_of_ble_eq_true rfl⟩ rfl dX2_step_49 (fun r9 u9 H locs hw9 hP hD hS => ?_)
      subst hw9
      have hP : va_P G.1 CL (PW G ph pd nr nc (tn nr nc (ftN nr nc pB pL pG 1) pL) pG pB (va_up (va_up pk 0 (pk 0 + 1)) 5 (pk 5 + bI (decide (hm nr nc (tn nr nc (ftN nr nc pB pL pG 1) pL) pG = nr * nc) && !decide (hm nr nc pL pG = nr * nc)))) a1_10 t1_10 n1_10) _ := hP
      have hD : va_D A (PW G ph pd nr nc (tn nr nc (ftN nr nc pB pL pG 1) pL) pG pB (va_up (va_up pk 0 (pk 0 + 1)) 5 (pk 5 + bI (decide (hm nr nc (tn nr nc (ftN nr nc pB pL pG 1) pL) pG = nr * nc) && !decide (hm nr nc pL pG = nr * nc)))) a1_10 t1_10 n1_10) := hD
      refine lv_istore_n (lv' := [(3, .int (nI (hm nr nc (tn nr nc (ftN nr nc pB pL pG 1) pL) pG))), (2, .int (oN (2 * (nr + nc)) (ftN nr nc pB pL pG 1))), (1, .int (oN 4 (awN (fun d => rch nr nc pB pG d pL)))), (0, .ref ph)]) hx hb dX2_step_52 rfl hl (by decide) rfl (fun ls hl => ?_)
      refine lv_aload_n hx hb dX2_step_53 rfl (lv_at hl 3 rfl) ?_
      refine lv_dup hx hb dX2_step_54 rfl ?_
      refine va_get (D := G.1) (ci := 1) (v := .int ((va_up (va_up pk 0 (pk 0 + 1)) 5 (pk 5 + bI (decide (hm nr nc (tn nr nc (ftN nr nc pB pL pG 1) pL) pG = nr * nc) && !decide (hm nr nc pL pG = nr * nc)))) 3)) (C := RX2) (T := TX2) (N := 14) hx hb hts in_X2 hown hK hP 0 rfl rfl 8 (by decide) (hts _ q157) (fun _ h9 => h9) rfl dX2_step_55 ?_
      refine lv_iconst (v := nI 1) hx hb dX2_step_58 (by decide) ?_
      refine lv_iadd hx hb dX2_step_59 ?_
      refine va_put (D := G.1) (ci := 1) (v := .int (((va_up (va_up pk 0 (pk 0 + 1)) 5 (pk 5 + bI (decide (hm nr nc (tn nr nc (ftN nr nc pB pL pG 1) pL) pG = nr * nc) && !decide (hm nr nc pL pG = nr * nc)))) 3) + (nI 1))) (ty := .int) (C := RX2) (T := TX2) (N := 14) hx hb hts in_X2 tyX2 tyX2_ok nmX2 hown hK hP hD hS 0 rfl rfl 8 (by decide) (hts _ q157) (fun _ h9 => h9) rfl (by decide +kernel) rfl rfl (Nat.le_of_ble_eq_true rfl) dX2_step_60 (fun H locs hP hD hS => ?_)
      have hP : va_P G.1 CL (PW G ph pd nr nc (tn nr nc (ftN nr nc pB pL pG 1) pL) pG pB (va_up (va_up (va_up pk 0 (pk 0 + 1)) 5 (pk 5 + bI (decide (hm nr nc (tn nr nc (ftN nr nc pB pL pG 1) pL) pG = nr * nc) && !decide (hm nr nc pL pG = nr * nc)))) 3 (((va_up (va_up pk 0 (pk 0 + 1)) 5 (pk 5 + bI (decide (hm nr nc (tn nr nc (ftN nr nc pB pL pG 1) pL) pG = nr * nc) && !decide (hm nr nc pL pG = nr * nc)))) 3) + (nI 1))) a1_10 t1_10 n1_10) _ := hP
      have hD : va_D A (PW G ph pd nr nc (tn nr nc (ftN nr nc pB pL pG 1) pL) pG pB (va_up (va_up (va_up pk 0 (pk 0 + 1)) 5 (pk 5 + bI (decide (hm nr nc (tn nr nc (ftN nr nc pB pL pG 1) pL) pG = nr * nc) && !decide (hm nr nc pL pG = nr * nc)))) 3 (((va_up (va_up pk 0 (pk 0 + 1)) 5 (pk 5 + bI (decide (hm nr nc (tn nr nc (ftN nr nc pB pL pG 1) pL) pG = nr * nc) && !decide (hm nr nc pL pG = nr * nc)))) 3) + (nI 1))) a1_10 t1_10 n1_10) := hD
      refine lv_iload_n hx hb dX2_step_63 rfl (lv_at hl 1 rfl) ?_
      refine eq_i (y := nI (ftN nr nc pB pL pG 1)) (oN_lt (hft ▸ ft_lt (by omega) ha0 (by omega))) ?_
      subst hQ
      rw [stV, stL, stK, if_neg h49, if_neg h49, if_neg h49, hft]
      refine vx_ret ?_
      exact ret_i hx hb hr hlk (⟨a1_10, t1_10, n1_10⟩) ⟨rfl, ⟨⟨hnr9, hw26⟩, hw30⟩⟩ hP hD hS rfl dX2_step_64
    · skip
      refine eq_i (y := nI 3) (show oN 4 (awZ nr nc pL pG pB) = _ by rw [hd9]; rfl) ?_
      refine callVi (As := [.int (nI 3)]) (rest := []) (wc := (PW G ph pd nr nc pL pG pB pk a1_10 t1_10 n1_10)) (wr := ([] : va_W)) ⟨hx, hb, hml, hown, hts⟩ (m_X2_firstTurn__3 l G ph pd nr nc pL pG pB pk a1_10 t1_10 n1_10 (by first | assumption | omega) (by first | assumption | omega) (by first | assumption | omega)) (cwV 1 hts (lw_V q1344 q1345 q1346 q89 q1347) rfl rfl rfl (by decide +kernel) ⟨Nat.le_of_ble_eq_true rfl, Nat.le_of_ble_eq_true rfl⟩) hK hZ hA hP hD hS [0, 1, 2, 3, 4, 5] [] rfl rfl (by decide) (by decide) (by decide) 0 1 rfl rfl rfl hl.1 (Nat.le_of_ble_eq_true rfl) ⟨Nat.le_of_ble_eq_true rfl, Nat.le_of_ble_eq_true rfl⟩ rfl dX2_step_43 (fun r9 u9 H locs hw9 hP hD hS => ?_)
      subst hw9
      have hP : va_P G.1 CL (PW G ph pd nr nc pL pG pB pk a1_10 t1_10 n1_10) _ := hP
      have hD : va_D A (PW G ph pd nr nc pL pG pB pk a1_10 t1_10 n1_10) := hD
      have hft : stF nr nc pL pG pB = (ftN nr nc pB pL pG 2) := by unfold stF; rw [hd9]
      refine lv_istore_n (lv' := [(2, .int (oN (2 * (nr + nc)) (ftN nr nc pB pL pG 2))), (1, .int (oN 4 (awN (fun d => rch nr nc pB pG d pL)))), (0, .ref ph)]) hx hb dX2_step_46 rfl hl (by decide) rfl (fun ls hl => ?_)
      refine lv_aload_n hx hb dX2_step_47 rfl (lv_at hl 2 rfl) ?_
      refine lv_iload_n hx hb dX2_step_48 rfl (lv_at hl 0 rfl) ?_
      refine eq_i (y := nI (ftN nr nc pB pL pG 2)) (oN_lt (hft ▸ ft_lt (by omega) ha0 (by omega))) ?_
      refine callVi (As := [.int (nI (ftN nr nc pB pL pG 2))]) (rest := []) (wc := (PW G ph pd nr nc pL pG pB pk a1_10 t1_10 n1_10)) (wr := ([] : va_W)) ⟨hx, hb, hml, hown, hts⟩ (m_X2_makesTurn l G ph pd nr nc pL pG pB pk a1_10 t1_10 n1_10 (ftN nr nc pB pL pG 2) (by first | assumption | omega) (hft ▸ ft_lt (by omega) ha0 (by omega)) (by first | assumption | omega) (by first | assumption | omega)) (cwV 1 hts (lw_V q1284 q1286 qs21 q89 q1287) rfl rfl rfl (by decide +kernel) ⟨Nat.le_of_ble_eq_true rfl, Nat.le_of_ble_eq_true rfl⟩) hK hZ hA hP hD hS [0, 1, 2, 3, 4, 5] [] rfl rfl (by decide) (by decide) (by decide) 0 1 rfl rfl rfl hl.1 (Nat.le_of_ble_eq_true rfl) ⟨Nat.le_of_ble_eq_true rfl, Nat.le_of_ble_eq_true rfl⟩ rfl dX2_step_49 (fun r9 u9 H locs hw9 hP hD hS => ?_)
      subst hw9
      have hP : va_P G.1 CL (PW G ph pd nr nc (tn nr nc (ftN nr nc pB pL pG 2) pL) pG pB (va_up (va_up pk 0 (pk 0 + 1)) 5 (pk 5 + bI (decide (hm nr nc (tn nr nc (ftN nr nc pB pL pG 2) pL) pG = nr * nc) && !decide (hm nr nc pL pG = nr * nc)))) a1_10 t1_10 n1_10) _ := hP
      have hD : va_D A (PW G ph pd nr nc (tn nr nc (ftN nr nc pB pL pG 2) pL) pG pB (va_up (va_up pk 0 (pk 0 + 1)) 5 (pk 5 + bI (decide (hm nr nc (tn nr nc (ftN nr nc pB pL pG 2) pL) pG = nr * nc) && !decide (hm nr nc pL pG = nr * nc)))) a1_10 t1_10 n1_10) := hD
      refine lv_istore_n (lv' := [(3, .int (nI (hm nr nc (tn nr nc (ftN nr nc pB pL pG 2) pL) pG))), (2, .int (oN (2 * (nr + nc)) (ftN nr nc pB pL pG 2))), (1, .int (oN 4 (awN (fun d => rch nr nc pB pG d pL)))), (0, .ref ph)]) hx hb dX2_step_52 rfl hl (by decide) rfl (fun ls hl => ?_)
      refine lv_aload_n hx hb dX2_step_53 rfl (lv_at hl 3 rfl) ?_
      refine lv_dup hx hb dX2_step_54 rfl ?_
      refine va_get (D := G.1) (ci := 1) (v := .int ((va_up (va_up pk 0 (pk 0 + 1)) 5 (pk 5 + bI (decide (hm nr nc (tn nr nc (ftN nr nc pB pL pG 2) pL) pG = nr * nc) && !decide (hm nr nc pL pG = nr * nc)))) 3)) (C := RX2) (T := TX2) (N := 14) hx hb hts in_X2 hown hK hP 0 rfl rfl 8 (by decide) (hts _ q157) (fun _ h9 => h9) rfl dX2_step_55 ?_
      refine lv_iconst (v := nI 1) hx hb dX2_step_58 (by decide) ?_
      refine lv_iadd hx hb dX2_step_59 ?_
      refine va_put (D := G.1) (ci := 1) (v := .int (((va_up (va_up pk 0 (pk 0 + 1)) 5 (pk 5 + bI (decide (hm nr nc (tn nr nc (ftN nr nc pB pL pG 2) pL) pG = nr * nc) && !decide (hm nr nc pL pG = nr * nc)))) 3) + (nI 1))) (ty := .int) (C := RX2) (T := TX2) (N := 14) hx hb hts in_X2 tyX2 tyX2_ok nmX2 hown hK hP hD hS 0 rfl rfl 8 (by decide) (hts _ q157) (fun _ h9 => h9) rfl (by decide +kernel) rfl rfl (Nat.le_of_ble_eq_true rfl) dX2_step_60 (fun H locs hP hD hS => ?_)
      have hP : va_P G.1 CL (PW G ph pd nr nc (tn nr nc (ftN nr nc pB pL pG 2) pL) pG pB (va_up (va_up (va_up pk 0 (pk 0 + 1)) 5 (pk 5 + bI (decide (hm nr nc (tn nr nc (ftN nr nc pB pL pG 2) pL) pG = nr * nc) && !decide (hm nr nc pL pG = nr * nc)))) 3 (((va_up (va_up pk 0 (pk 0 + 1)) 5 (pk 5 + bI (decide (hm nr nc (tn nr nc (ftN nr nc pB pL pG 2) pL) pG = nr * nc) && !decide (hm nr nc pL pG = nr * nc)))) 3) + (nI 1))) a1_10 t1_10 n1_10) _ := hP
      have hD : va_D A (PW G ph pd nr nc (tn nr nc (ftN nr nc pB pL pG 2) pL) pG pB (va_up (va_up (va_up pk 0 (pk 0 + 1)) 5 (pk 5 + bI (decide (hm nr nc (tn nr nc (ftN nr nc pB pL pG 2) pL) pG = nr * nc) && !decide (hm nr nc pL pG = nr * nc)))) 3 (((va_up (va_up pk 0 (pk 0 + 1)) 5 (pk 5 + bI (decide (hm nr nc (tn nr nc (ftN nr nc pB pL pG 2) pL) pG = nr * nc) && !decide (hm nr nc pL pG = nr * nc)))) 3) + (nI 1))) a1_10 t1_10 n1_10) := hD
      refine lv_iload_n hx hb dX2_step_63 rfl (lv_at hl 1 rfl) ?_
      refine eq_i (y := nI (ftN nr nc pB pL pG 2)) (oN_lt (hft ▸ ft_lt (by omega) ha0 (by omega))) ?_
      subst hQ
      rw [stV, stL, stK, if_neg h49, if_neg h49, if_neg h49, hft]
      refine vx_ret ?_
      exact ret_i hx hb hr hlk (⟨a1_10, t1_10, n1_10⟩) ⟨rfl, ⟨⟨hnr9, hw26⟩, hw30⟩⟩ hP hD hS rfl dX2_step_64
  · skip
    have h49 : awZ nr nc pL pG pB = 4 := by have h9 : oN 4 (awZ nr nc pL pG pB) = -1 := c36; rw [oN_m1 (by decide)] at h9; omega
    refine lv_iconst (v := (-1)) hx hb dX2_step_39 (by decide) ?_
    subst hQ
    rw [stV, stL, stK, if_pos h49, if_pos h49, if_pos h49]
    refine vx_ret ?_
    exact ret_i hx hb hr hlk (⟨a1_10, t1_10, n1_10⟩) ⟨rfl, ⟨⟨hnr9, hw26⟩, hw30⟩⟩ hP hD hS rfl dX2_step_40
