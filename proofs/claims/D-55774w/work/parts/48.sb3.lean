theorem sbA {cap n c : Nat} {f tx : Nat → Nat} (h : SBR cap false n f tx) (hn : n < 60) (hc : c < 256) (hk : n < cap) : SBR cap false (n + 1) (va_up f n c) (va_up tx n c) := by
  refine ⟨by omega, fun _ => ⟨by omega, (h.2.1 rfl).2.1, fun i hi => ?_⟩, fun e => Bool.noConfusion e⟩
  unfold va_up
  by_cases e : i = n
  · rw [if_pos e, if_pos e]; exact Nat.mod_eq_of_lt hc
  · rw [if_neg e, if_neg e]; exact (h.2.1 rfl).2.2 i (by omega)
theorem sbG {cap n : Nat} {f tx : Nat → Nat} (h : SBR cap false n f tx) (hn : n < 60) (hk : cap < n + 1) : SBR (cap + max (n + 1 - cap) (cap + 2)) false n (va_cpy f (fun _ => 0) 0 0 (min cap (cap + max (n + 1 - cap) (cap + 2)))) tx := by
  have h1 := (h.2.1 rfl).1
  refine ⟨by omega, fun _ => ⟨by omega, by omega, fun i hi => ?_⟩, fun e => Bool.noConfusion e⟩
  have h2 := (h.2.1 rfl).2.2 i hi
  unfold va_cpy
  rw [if_pos (by omega)]; simpa using h2
theorem sbGU {cap n : Nat} {f tx : Nat → Nat} (h : SBR cap true n f tx) (hn : n < 60) (hk : cap / 2 < n + 1) : SBR ((cap + max ((n + 1) * 2 - cap) (cap + 2 * 2)) / 2 * 2) true n (va_cpy f (fun _ => 0) 0 0 (min cap ((cap + max ((n + 1) * 2 - cap) (cap + 2 * 2)) / 2 * 2))) tx := by
  obtain ⟨h1, h2, h3, h4⟩ := h.2.2 rfl
  refine ⟨by omega, fun e => Bool.noConfusion e, fun _ => ⟨by omega, by omega, by omega, fun i hi => ?_⟩⟩
  have h5 := h4 i hi
  unfold va_cpy
  rw [if_pos (by omega), if_pos (by omega)]; simpa using h5
theorem sbI {cap n : Nat} {f g tx : Nat → Nat} (h : SBR cap false n f tx) (hg : ∀ j, j < n → g (j * 2) % 256 + g (j * 2 + 1) % 256 * 256 = f j % 256) : SBR (cap * 2) true n g tx := by
  obtain ⟨h1, h2, h3⟩ := h.2.1 rfl
  exact ⟨h.1, fun e => Bool.noConfusion e, fun _ => ⟨by omega, by omega, by omega, fun i hi => (hg i hi).trans (h3 i hi)⟩⟩
theorem sbU {cap n c : Nat} {f tx : Nat → Nat} (h : SBR cap true n f tx) (hn : n < 60) (hc : c < 65536) (hk : n < cap / 2) : SBR cap true (n + 1) (va_up (va_up f (n * 2) c) (n * 2 + 1) (c / 256)) (va_up tx n c) := by
  obtain ⟨h1, h2, h3, h4⟩ := h.2.2 rfl
  refine ⟨by omega, fun e => Bool.noConfusion e, fun _ => ⟨by omega, h2, h3, fun i hi => ?_⟩⟩
  unfold va_up
  by_cases e : i = n
  · subst e
    rw [if_neg (by omega), if_pos rfl, if_pos rfl, if_pos rfl]; omega
  · rw [if_neg (by omega), if_neg (by omega), if_neg (by omega), if_neg (by omega), if_neg e]; exact h4 i (by omega)
theorem sb0 {cap n : Nat} {cd : Bool} {f tx : Nat → Nat} (tx2 : Nat → Nat) (h : SBR cap cd n f tx) : SBR cap cd 0 f tx2 :=
  ⟨by omega, fun e => ⟨by omega, (h.2.1 e).2.1, fun i hi => absurd hi (Nat.not_lt_zero _)⟩, fun e => ⟨by omega, (h.2.2 e).2.1, (h.2.2 e).2.2.1, fun i hi => absurd hi (Nat.not_lt_zero _)⟩⟩
set_option maxHeartbeats 4000000 in
set_option maxRecDepth 100000 in
theorem m_J2_append_3__L (l : Launch) (G : GG) (sh : Nat) (va : Nat) (ml : Bool) (sn : Nat) (cap : Nat) (yf : Nat → Nat) (tx : Nat → Nat) (x : Nat) (hR : SBR cap false sn yf tx) (hn : sn < 60) (hx1 : x < 65536) : MM l G yJ2_append_3 cJ2_append_3 2 (some (.object "java/lang/AbstractStringBuilder")) ⟨6, 2, 490, 137⟩ [.ref sh, .int (nI x)] (SOW G sh va false ml sn ++ BAW G va cap yf) (Qr_ G (fun (r : Nat) (u : (Nat) × (Nat) × (Bool) × (Nat → Nat)) => (r = sh) ∧ (SBR u.2.1 u.2.2.1 (sn + 1) u.2.2.2 (va_up tx sn x))) (fun (r : Nat) (u : (Nat) × (Nat) × (Bool) × (Nat → Nat)) => (SOW G sh u.1 u.2.2.1 ml (sn + 1) ++ BAW G u.1 u.2.1 u.2.2.2))) := by
  refine MM.of (by decide) (Nat.le_of_ble_eq_true rfl) ?_
  intro p e s m args below meth cd A C hini hA hK hZ hP hD ls hl
  generalize hQ : MQ below ((Qr_ G (fun (r : Nat) (u : (Nat) × (Nat) × (Bool) × (Nat → Nat)) => (r = sh) ∧ (SBR u.2.1 u.2.2.1 (sn + 1) u.2.2.2 (va_up tx sn x))) (fun (r : Nat) (u : (Nat) × (Nat) × (Bool) × (Nat → Nat)) => (SOW G sh u.1 u.2.2.1 ml (sn + 1) ++ BAW G u.1 u.2.1 u.2.2.2))) A) args s (⟨6, 2, 490, 137⟩ : Room).cells (⟨6, 2, 490, 137⟩ : Room).slots A = Q
  obtain ⟨hx, hb, hr, hts, hown, hlk, hml⟩ := C
  have hown : s.vm.findClass RJ2 = some m.cls := hown
  have hS : va_S A s.heap s.heap [] := va_S.rf
  have hl : lv_has ls 2 [(0, .ref sh), (1, .int (nI x))] := hl
  refine lv_aload_n hx hb dJ2_append_3_0 rfl (lv_at hl 0 rfl) ?_
  refine lv_aload_n hx hb dJ2_append_3_1 rfl (lv_at hl 0 rfl) ?_
  refine va_get (D := G.1) (ci := 9) (v := .int (nI sn)) (C := RJ3) (T := TJ3) (N := 4) hx hb hts in_J3 hown hK hP 0 rfl rfl 3 (by decide) (hts _ q256) (fun _ h9 => h9) rfl dJ2_append_3_2 ?_
  refine lv_iconst (v := nI 1) hx hb dJ2_append_3_5 (by decide) ?_
  refine n_iadd hx hb dJ2_append_3_6 ?_
  rcases Nat.lt_or_ge cap (sn + 1) with c7 | c7
  · skip
    refine callVv (As := [.int (nI (sn + 1))]) (rest := []) (wc := (SOW G sh va false ml sn ++ BAW G va cap yf)) (wr := ([] : va_W)) ⟨hx, hb, hml, hown, hts⟩ (m_J2_ensureCapacityInternal__Lg l G sh va ml sn cap yf (sn + 1) (by first | assumption | omega) (by first | assumption | omega)) ⟨callB_of 1 hts (lw_meth q710) rfl rfl rfl (hts _ q93) (hts _ q707) (by decide +kernel) ⟨Nat.le_of_ble_eq_true rfl, Nat.le_of_ble_eq_true rfl⟩, hts _ q709, (hZ.selP (by decide) (lw_all_tbl q235) q708 (lw_all_tbl q709) (lw_all_tbl q2183))⟩ hK hZ hA hP hD hS [0, 1] [] rfl rfl (by decide) (by decide) (by decide) 0 9 rfl rfl rfl hl.1 (Nat.le_of_ble_eq_true rfl) ⟨Nat.le_of_ble_eq_true rfl, Nat.le_of_ble_eq_true rfl⟩ rfl dJ2_append_3_7 (fun u9 H locs hw9 hP hD hS => ?_)
    refine W.widen (k := 1) (n := 246) (Nat.le_refl _) (Nat.le_refl _) ?_
    obtain ⟨v2_1, e9⟩ : ∃ z, z = u9 := ⟨_, rfl⟩
    subst e9
    have hP : va_P G.1 CL (SOW G sh v2_1 false ml sn ++ BAW G v2_1 (cap + max ((sn + 1) - cap) (cap + 2)) (va_cpy yf (fun _ => 0) 0 0 (min cap (cap + max ((sn + 1) - cap) (cap + 2))))) _ := hP
    have hD : va_D A (SOW G sh v2_1 false ml sn ++ BAW G v2_1 (cap + max ((sn + 1) - cap) (cap + 2)) (va_cpy yf (fun _ => 0) 0 0 (min cap (cap + max ((sn + 1) - cap) (cap + 2))))) := hD
    have r5 := (hR.2.1 rfl).2.1
    have hR := sbG hR hn c7
    refine lv_aload_n hx hb dJ2_append_3_10 rfl (lv_at hl 0 rfl) ?_
    refine callVi (As := []) (rest := []) (wc := (SOW G sh v2_1 false ml sn)) (wr := (BAW G v2_1 (cap + max ((sn + 1) - cap) (cap + 2)) (va_cpy yf (fun _ => 0) 0 0 (min cap (cap + max ((sn + 1) - cap) (cap + 2)))))) ⟨hx, hb, hml, hown, hts⟩ (m_J2_isLatin1__L l G sh v2_1 ml sn ) ⟨callB_of 0 hts (lw_meth q740) rfl rfl rfl (hts _ q93) (hts _ q736) (by decide +kernel) ⟨Nat.le_of_ble_eq_true rfl, Nat.le_of_ble_eq_true rfl⟩, hts _ q737, (hts _ q739)⟩ hK hZ hA hP hD hS [0] [1] rfl rfl (by decide) (by decide) (by decide) 0 9 rfl rfl rfl hl.1 (Nat.le_of_ble_eq_true rfl) ⟨Nat.le_of_ble_eq_true rfl, Nat.le_of_ble_eq_true rfl⟩ rfl dJ2_append_3_11 (fun r9 u9 H locs hw9 hP hD hS => ?_)
    subst hw9
    obtain ⟨hP, hD⟩ := re_PD (w := (SOW G sh v2_1 false ml sn ++ BAW G v2_1 (cap + max ((sn + 1) - cap) (cap + 2)) (va_cpy yf (fun _ => 0) 0 0 (min cap (cap + max ((sn + 1) - cap) (cap + 2)))))) hP hD [1, 0] (by decide) rfl
    refine n_if_eq (tgt := 45) hx hb dJ2_append_3_14 (by decide) (by decide) (fun c14 => ?_) (fun c14 => ?_)
    · exact absurd c14 (by decide)
    refine lv_iload_n hx hb dJ2_append_3_17 rfl (lv_at hl 1 rfl) ?_
    refine callSi (As := [.int (nI x)]) (rest := []) (wc := ([] : va_W)) (wr := (SOW G sh v2_1 false ml sn ++ BAW G v2_1 (cap + max ((sn + 1) - cap) (cap + 2)) (va_cpy yf (fun _ => 0) 0 0 (min cap (cap + max ((sn + 1) - cap) (cap + 2)))))) ⟨hx, hb, hml, hown, hts⟩ (m_J23_canEncode l G x (by first | assumption | omega)) (va_cwS 1 hts (lw_S q977 q978 q120 q979) rfl rfl rfl (by decide +kernel) ⟨Nat.le_of_ble_eq_true rfl, Nat.le_of_ble_eq_true rfl⟩) hK hZ hA hP hD hS [] [0, 1] rfl rfl (by decide) (by decide) (by decide) rfl hl.1 (Nat.le_of_ble_eq_true rfl) ⟨Nat.le_of_ble_eq_true rfl, Nat.le_of_ble_eq_true rfl⟩ rfl dJ2_append_3_18 (fun r9 u9 H locs hw9 hP hD hS => ?_)
    subst hw9
    have hP : va_P G.1 CL (SOW G sh v2_1 false ml sn ++ BAW G v2_1 (cap + max ((sn + 1) - cap) (cap + 2)) (va_cpy yf (fun _ => 0) 0 0 (min cap (cap + max ((sn + 1) - cap) (cap + 2))))) _ := hP
    have hD : va_D A (SOW G sh v2_1 false ml sn ++ BAW G v2_1 (cap + max ((sn + 1) - cap) (cap + 2)) (va_cpy yf (fun _ => 0) 0 0 (min cap (cap + max ((sn + 1) - cap) (cap + 2))))) := hD
    refine b_if_eq (tgt := 45) hx hb dJ2_append_3_21 (by decide) (fun c21 => ?_) (fun c21 => ?_)
    · skip
      refine lv_aload_n hx hb dJ2_append_3_45 rfl (lv_at hl 0 rfl) ?_
      refine callVi (As := []) (rest := []) (wc := (SOW G sh v2_1 false ml sn)) (wr := (BAW G v2_1 (cap + max ((sn + 1) - cap) (cap + 2)) (va_cpy yf (fun _ => 0) 0 0 (min cap (cap + max ((sn + 1) - cap) (cap + 2)))))) ⟨hx, hb, hml, hown, hts⟩ (m_J2_isLatin1__L l G sh v2_1 ml sn ) ⟨callB_of 0 hts (lw_meth q740) rfl rfl rfl (hts _ q93) (hts _ q736) (by decide +kernel) ⟨Nat.le_of_ble_eq_true rfl, Nat.le_of_ble_eq_true rfl⟩, hts _ q737, (hts _ q739)⟩ hK hZ hA hP hD hS [0] [1] rfl rfl (by decide) (by decide) (by decide) 0 9 rfl rfl rfl hl.1 (Nat.le_of_ble_eq_true rfl) ⟨Nat.le_of_ble_eq_true rfl, Nat.le_of_ble_eq_true rfl⟩ rfl dJ2_append_3_46 (fun r9 u9 H locs hw9 hP hD hS => ?_)
      subst hw9
      obtain ⟨hP, hD⟩ := re_PD (w := (SOW G sh v2_1 false ml sn ++ BAW G v2_1 (cap + max ((sn + 1) - cap) (cap + 2)) (va_cpy yf (fun _ => 0) 0 0 (min cap (cap + max ((sn + 1) - cap) (cap + 2)))))) hP hD [1, 0] (by decide) rfl
      refine n_if_eq (tgt := 56) hx hb dJ2_append_3_49 (by decide) (by decide) (fun c49 => ?_) (fun c49 => ?_)
      · exact absurd c49 (by decide)
      refine lv_aload_n hx hb dJ2_append_3_52 rfl (lv_at hl 0 rfl) ?_
      refine callVv (As := []) (rest := []) (wc := (SOW G sh v2_1 false ml sn ++ BAW G v2_1 (cap + max ((sn + 1) - cap) (cap + 2)) (va_cpy yf (fun _ => 0) 0 0 (min cap (cap + max ((sn + 1) - cap) (cap + 2)))))) (wr := ([] : va_W)) ⟨hx, hb, hml, hown, hts⟩ (m_J2_inflate l G sh v2_1 ml sn (cap + max ((sn + 1) - cap) (cap + 2)) (va_cpy yf (fun _ => 0) 0 0 (min cap (cap + max ((sn + 1) - cap) (cap + 2)))) (hR.2.1 rfl).2.1 (hR.2.1 rfl).1) ⟨callB_of 0 hts (lw_meth q788) rfl rfl rfl (hts _ q93) (hts _ q785) (by decide +kernel) ⟨Nat.le_of_ble_eq_true rfl, Nat.le_of_ble_eq_true rfl⟩, hts _ q787, (hZ.selP (by decide) (lw_all_tbl q235) q786 (lw_all_tbl q787) (lw_all_tbl q2187))⟩ hK hZ hA hP hD hS [0, 1] [] rfl rfl (by decide) (by decide) (by decide) 0 9 rfl rfl rfl hl.1 (Nat.le_of_ble_eq_true rfl) ⟨Nat.le_of_ble_eq_true rfl, Nat.le_of_ble_eq_true rfl⟩ rfl dJ2_append_3_53 (fun u9 H locs hw9 hP hD hS => ?_)
      refine W.widen (k := 2) (n := 490) (Nat.le_refl _) (Nat.le_refl _) ?_
      obtain ⟨v2_5, g_5⟩ := u9
      have hw53 : ∀ j, j < sn → g_5 (j * 2) % 256 + g_5 (j * 2 + 1) % 256 * 256 = (va_cpy yf (fun _ => 0) 0 0 (min cap (cap + max ((sn + 1) - cap) (cap + 2)))) j % 256 := hw9
      have hP : va_P G.1 CL (SOW G sh v2_5 true ml sn ++ BAW G v2_5 ((cap + max ((sn + 1) - cap) (cap + 2)) * 2) g_5) _ := hP
      have hD : va_D A (SOW G sh v2_5 true ml sn ++ BAW G v2_5 ((cap + max ((sn + 1) - cap) (cap + 2)) * 2) g_5) := hD
      have hcap := c7
      have hR := sbI hR hw53
      refine lv_aload_n hx hb dJ2_append_3_56 rfl (lv_at hl 0 rfl) ?_
      refine va_get (D := G.1) (ci := 9) (v := .ref v2_5) (C := RJ3) (T := TJ3) (N := 4) hx hb hts in_J3 hown hK hP 0 rfl rfl 0 (by decide) (hts _ q252) (fun _ h9 => h9) rfl dJ2_append_3_57 ?_
      refine lv_aload_n hx hb dJ2_append_3_60 rfl (lv_at hl 0 rfl) ?_
      refine lv_dup hx hb dJ2_append_3_61 rfl ?_
      refine va_get (D := G.1) (ci := 9) (v := .int (nI sn)) (C := RJ3) (T := TJ3) (N := 4) hx hb hts in_J3 hown hK hP 0 rfl rfl 3 (by decide) (hts _ q256) (fun _ h9 => h9) rfl dJ2_append_3_62 ?_
      refine lv_dup_x1 hx hb dJ2_append_3_65 rfl rfl ?_
      refine lv_iconst (v := nI 1) hx hb dJ2_append_3_66 (by decide) ?_
      refine n_iadd hx hb dJ2_append_3_67 ?_
      refine va_put (D := G.1) (ci := 9) (v := .int (nI (sn + 1))) (ty := .int) (C := RJ3) (T := TJ3) (N := 4) hx hb hts in_J3 tyJ3 tyJ3_ok nmJ3 hown hK hP hD hS 0 rfl rfl 3 (by decide) (hts _ q256) (fun _ h9 => h9) rfl (by decide +kernel) rfl rfl (Nat.le_of_ble_eq_true rfl) dJ2_append_3_68 (fun H locs hP hD hS => ?_)
      have hP : va_P G.1 CL (SOW G sh v2_5 true ml (sn + 1) ++ BAW G v2_5 ((cap + max ((sn + 1) - cap) (cap + 2)) * 2) g_5) _ := hP
      have hD : va_D A (SOW G sh v2_5 true ml (sn + 1) ++ BAW G v2_5 ((cap + max ((sn + 1) - cap) (cap + 2)) * 2) g_5) := hD
      refine lv_iload_n hx hb dJ2_append_3_71 rfl (lv_at hl 1 rfl) ?_
      refine callSv (As := [.ref v2_5, .int (nI sn), .int (nI x)]) (rest := []) (wc := (BAW G v2_5 ((cap + max ((sn + 1) - cap) (cap + 2)) * 2) g_5)) (wr := (SOW G sh v2_5 true ml (sn + 1))) ⟨hx, hb, hml, hown, hts⟩ (m_J5_putCharSB l G v2_5 ((cap + max ((sn + 1) - cap) (cap + 2)) * 2) g_5 sn x (by have := (hR.2.2 rfl).1; omega) (by have := (hR.2.2 rfl).2.1; omega) (by first | assumption | omega)) (va_cwS 3 hts (lw_S q980 q981 q96 q982) rfl rfl rfl (by decide +kernel) ⟨Nat.le_of_ble_eq_true rfl, Nat.le_of_ble_eq_true rfl⟩) hK hZ hA hP hD hS [1] [0] rfl rfl (by decide) (by decide) (by decide) rfl hl.1 (Nat.le_of_ble_eq_true rfl) ⟨Nat.le_of_ble_eq_true rfl, Nat.le_of_ble_eq_true rfl⟩ rfl dJ2_append_3_72 (fun u9 H locs hw9 hP hD hS => ?_)
      have hP : va_P G.1 CL (SOW G sh v2_5 true ml (sn + 1) ++ BAW G v2_5 ((cap + max ((sn + 1) - cap) (cap + 2)) * 2) (va_up (va_up g_5 (sn * 2) x) ((sn * 2) + 1) (x / 256))) _ := hP
      have hD : va_D A (SOW G sh v2_5 true ml (sn + 1) ++ BAW G v2_5 ((cap + max ((sn + 1) - cap) (cap + 2)) * 2) (va_up (va_up g_5 (sn * 2) x) ((sn * 2) + 1) (x / 256))) := hD
      refine lv_aload_n hx hb dJ2_append_3_75 rfl (lv_at hl 0 rfl) ?_
      subst hQ
      exact ret_r hx hb hr (Or.inl ⟨_, rfl⟩) hlk (⟨v2_5, ((cap + max ((sn + 1) - cap) (cap + 2)) * 2), true, (va_up (va_up g_5 (sn * 2) x) ((sn * 2) + 1) (x / 256))⟩) ⟨rfl, (sbU hR hn hx1 (by dsimp only; omega))⟩ hP hD hS dJ2_append_3_76
    · skip
      refine lv_aload_n hx hb dJ2_append_3_24 rfl (lv_at hl 0 rfl) ?_
      refine va_get (D := G.1) (ci := 9) (v := .ref v2_1) (C := RJ3) (T := TJ3) (N := 4) hx hb hts in_J3 hown hK hP 0 rfl rfl 0 (by decide) (hts _ q252) (fun _ h9 => h9) rfl dJ2_append_3_25 ?_
      refine lv_aload_n hx hb dJ2_append_3_28 rfl (lv_at hl 0 rfl) ?_
      refine lv_dup hx hb dJ2_append_3_29 rfl ?_
      refine va_get (D := G.1) (ci := 9) (v := .int (nI sn)) (C := RJ3) (T := TJ3) (N := 4) hx hb hts in_J3 hown hK hP 0 rfl rfl 3 (by decide) (hts _ q256) (fun _ h9 => h9) rfl dJ2_append_3_30 ?_
      refine lv_dup_x1 hx hb dJ2_append_3_33 rfl rfl ?_
      refine lv_iconst (v := nI 1) hx hb dJ2_append_3_34 (by decide) ?_
      refine n_iadd hx hb dJ2_append_3_35 ?_
      refine va_put (D := G.1) (ci := 9) (v := .int (nI (sn + 1))) (ty := .int) (C := RJ3) (T := TJ3) (N := 4) hx hb hts in_J3 tyJ3 tyJ3_ok nmJ3 hown hK hP hD hS 0 rfl rfl 3 (by decide) (hts _ q256) (fun _ h9 => h9) rfl (by decide +kernel) rfl rfl (Nat.le_of_ble_eq_true rfl) dJ2_append_3_36 (fun H locs hP hD hS => ?_)
      have hP : va_P G.1 CL (SOW G sh v2_1 false ml (sn + 1) ++ BAW G v2_1 (cap + max ((sn + 1) - cap) (cap + 2)) (va_cpy yf (fun _ => 0) 0 0 (min cap (cap + max ((sn + 1) - cap) (cap + 2))))) _ := hP
      have hD : va_D A (SOW G sh v2_1 false ml (sn + 1) ++ BAW G v2_1 (cap + max ((sn + 1) - cap) (cap + 2)) (va_cpy yf (fun _ => 0) 0 0 (min cap (cap + max ((sn + 1) - cap) (cap + 2))))) := hD
      refine lv_iload_n hx hb dJ2_append_3_39 rfl (lv_at hl 1 rfl) ?_
      refine lv_i2b (v := b8 x) hx hb dJ2_append_3_40 rfl ?_
      refine y_bast hx hb hK hP hD hS 1 1 rfl rfl (by omega) (by omega) dJ2_append_3_41 (fun H locs hP hD hS => ?_)
      have hP : va_P G.1 CL (SOW G sh v2_1 false ml (sn + 1) ++ BAW G v2_1 (cap + max ((sn + 1) - cap) (cap + 2)) (va_up (va_cpy yf (fun _ => 0) 0 0 (min cap (cap + max ((sn + 1) - cap) (cap + 2)))) sn x)) _ := hP
      have hD : va_D A (SOW G sh v2_1 false ml (sn + 1) ++ BAW G v2_1 (cap + max ((sn + 1) - cap) (cap + 2)) (va_up (va_cpy yf (fun _ => 0) 0 0 (min cap (cap + max ((sn + 1) - cap) (cap + 2)))) sn x)) := hD
      refine lv_goto (tgt := 75) hx hb dJ2_append_3_42 (by decide) ?_
      refine lv_aload_n hx hb dJ2_append_3_75 rfl (lv_at hl 0 rfl) ?_
      subst hQ
      refine W.widen (k := 2) (n := 490) (Nat.le_of_ble_eq_true rfl) (Nat.le_of_ble_eq_true rfl) ?_
      exact ret_r hx hb hr (Or.inl ⟨_, rfl⟩) hlk (⟨v2_1, (cap + max ((sn + 1) - cap) (cap + 2)), false, (va_up (va_cpy yf (fun _ => 0) 0 0 (min cap (cap + max ((sn + 1) - cap) (cap + 2)))) sn x)⟩) ⟨rfl, (sbA hR hn (of_decide_eq_true c21) (by dsimp only; omega))⟩ hP hD hS dJ2_append_3_76
  · skip
    refine callVv (As := [.int (nI (sn + 1))]) (rest := []) (wc := (SOW G sh va false ml sn ++ BAW G va cap yf)) (wr := ([] : va_W)) ⟨hx, hb, hml, hown, hts⟩ (m_J2_ensureCapacityInternal__Lk l G sh va ml sn cap yf (sn + 1) (by first | assumption | omega) (by have := (hR.2.1 rfl).2.1; omega)) ⟨callB_of 1 hts (lw_meth q710) rfl rfl rfl (hts _ q93) (hts _ q707) (by decide +kernel) ⟨Nat.le_of_ble_eq_true rfl, Nat.le_of_ble_eq_true rfl⟩, hts _ q709, (hZ.selP (by decide) (lw_all_tbl q235) q708 (lw_all_tbl q709) (lw_all_tbl q2183))⟩ hK hZ hA hP hD hS [0, 1] [] rfl rfl (by decide) (by decide) (by decide) 0 9 rfl rfl rfl hl.1 (Nat.le_of_ble_eq_true rfl) ⟨Nat.le_of_ble_eq_true rfl, Nat.le_of_ble_eq_true rfl⟩ rfl dJ2_append_3_7 (fun u9 H locs hw9 hP hD hS => ?_)
    have hP : va_P G.1 CL (SOW G sh va false ml sn ++ BAW G va cap yf) _ := hP
    have hD : va_D A (SOW G sh va false ml sn ++ BAW G va cap yf) := hD
    have r5 := (hR.2.1 rfl).2.1
    refine lv_aload_n hx hb dJ2_append_3_10 rfl (lv_at hl 0 rfl) ?_
    refine callVi (As := []) (rest := []) (wc := (SOW G sh va false ml sn)) (wr := (BAW G va cap yf)) ⟨hx, hb, hml, hown, hts⟩ (m_J2_isLatin1__L l G sh va ml sn ) ⟨callB_of 0 hts (lw_meth q740) rfl rfl rfl (hts _ q93) (hts _ q736) (by decide +kernel) ⟨Nat.le_of_ble_eq_true rfl, Nat.le_of_ble_eq_true rfl⟩, hts _ q737, (hts _ q739)⟩ hK hZ hA hP hD hS [0] [1] rfl rfl (by decide) (by decide) (by decide) 0 9 rfl rfl rfl hl.1 (Nat.le_of_ble_eq_true rfl) ⟨Nat.le_of_ble_eq_true rfl, Nat.le_of_ble_eq_true rfl⟩ rfl dJ2_append_3_11 (fun r9 u9 H locs hw9 hP hD hS => ?_)
    subst hw9
    obtain ⟨hP, hD⟩ := re_PD (w := (SOW G sh va false ml sn ++ BAW G va cap yf)) hP hD [1, 0] (by decide) rfl
    refine n_if_eq (tgt := 45) hx hb dJ2_append_3_14 (by decide) (by decide) (fun c14 => ?_) (fun c14 => ?_)
    · exact absurd c14 (by decide)
    refine lv_iload_n hx hb dJ2_append_3_17 rfl (lv_at hl 1 rfl) ?_
    refine callSi (As := [.int (nI x)]) (rest := []) (wc := ([] : va_W)) (wr := (SOW G sh va false ml sn ++ BAW G va cap yf)) ⟨hx, hb, hml, hown, hts⟩ (m_J23_canEncode l G x (by first | assumption | omega)) (va_cwS 1 hts (lw_S q977 q978 q120 q979) rfl rfl rfl (by decide +kernel) ⟨Nat.le_of_ble_eq_true rfl, Nat.le_of_ble_eq_true rfl⟩) hK hZ hA hP hD hS [] [0, 1] rfl rfl (by decide) (by decide) (by decide) rfl hl.1 (Nat.le_of_ble_eq_true rfl) ⟨Nat.le_of_ble_eq_true rfl, Nat.le_of_ble_eq_true rfl⟩ rfl dJ2_append_3_18 (fun r9 u9 H locs hw9 hP hD hS => ?_)
    subst hw9
    have hP : va_P G.1 CL (SOW G sh va false ml sn ++ BAW G va cap yf) _ := hP
    have hD : va_D A (SOW G sh va false ml sn ++ BAW G va cap yf) := hD
    refine b_if_eq (tgt := 45) hx hb dJ2_append_3_21 (by decide) (fun c21 => ?_) (fun c21 => ?_)
    · skip
      refine lv_aload_n hx hb dJ2_append_3_45 rfl (lv_at hl 0 rfl) ?_
      refine callVi (As := []) (rest := []) (wc := (SOW G sh va false ml sn)) (wr := (BAW G va cap yf)) ⟨hx, hb, hml, hown, hts⟩ (m_J2_isLatin1__L l G sh va ml sn ) ⟨callB_of 0 hts (lw_meth q740) rfl rfl rfl (hts _ q93) (hts _ q736) (by decide +kernel) ⟨Nat.le_of_ble_eq_true rfl, Nat.le_of_ble_eq_true rfl⟩, hts _ q737, (hts _ q739)⟩ hK hZ hA hP hD hS [0] [1] rfl rfl (by decide) (by decide) (by decide) 0 9 rfl rfl rfl hl.1 (Nat.le_of_ble_eq_true rfl) ⟨Nat.le_of_ble_eq_true rfl, Nat.le_of_ble_eq_true rfl⟩ rfl dJ2_append_3_46 (fun r9 u9 H locs hw9 hP hD hS => ?_)
      subst hw9
      obtain ⟨hP, hD⟩ := re_PD (w := (SOW G sh va false ml sn ++ BAW G va cap yf)) hP hD [1, 0] (by decide) rfl
      refine n_if_eq (tgt := 56) hx hb dJ2_append_3_49 (by decide) (by decide) (fun c49 => ?_) (fun c49 => ?_)
      · exact absurd c49 (by decide)
      refine lv_aload_n hx hb dJ2_append_3_52 rfl (lv_at hl 0 rfl) ?_
      refine callVv (As := []) (rest := []) (wc := (SOW G sh va false ml sn ++ BAW G va cap yf)) (wr := ([] : va_W)) ⟨hx, hb, hml, hown, hts⟩ (m_J2_inflate l G sh va ml sn cap yf (hR.2.1 rfl).2.1 (hR.2.1 rfl).1) ⟨callB_of 0 hts (lw_meth q788) rfl rfl rfl (hts _ q93) (hts _ q785) (by decide +kernel) ⟨Nat.le_of_ble_eq_true rfl, Nat.le_of_ble_eq_true rfl⟩, hts _ q787, (hZ.selP (by decide) (lw_all_tbl q235) q786 (lw_all_tbl q787) (lw_all_tbl q2187))⟩ hK hZ hA hP hD hS [0, 1] [] rfl rfl (by decide) (by decide) (by decide) 0 9 rfl rfl rfl hl.1 (Nat.le_of_ble_eq_true rfl) ⟨Nat.le_of_ble_eq_true rfl, Nat.le_of_ble_eq_true rfl⟩ rfl dJ2_append_3_53 (fun u9 H locs hw9 hP hD hS => ?_)
      refine W.widen (k := 1) (n := 244) (Nat.le_refl _) (Nat.le_refl _) ?_
      obtain ⟨v2_11, g_11⟩ := u9
      have hw53 : ∀ j, j < sn → g_11 (j * 2) % 256 + g_11 (j * 2 + 1) % 256 * 256 = yf j % 256 := hw9
      have hP : va_P G.1 CL (SOW G sh v2_11 true ml sn ++ BAW G v2_11 (cap * 2) g_11) _ := hP
      have hD : va_D A (SOW G sh v2_11 true ml sn ++ BAW G v2_11 (cap * 2) g_11) := hD
      have hcap := c7
      have hR := sbI hR hw53
      refine lv_aload_n hx hb dJ2_append_3_56 rfl (lv_at hl 0 rfl) ?_
      refine va_get (D := G.1) (ci := 9) (v := .ref v2_11) (C := RJ3) (T := TJ3) (N := 4) hx hb hts in_J3 hown hK hP 0 rfl rfl 0 (by decide) (hts _ q252) (fun _ h9 => h9) rfl dJ2_append_3_57 ?_
      refine lv_aload_n hx hb dJ2_append_3_60 rfl (lv_at hl 0 rfl) ?_
      refine lv_dup hx hb dJ2_append_3_61 rfl ?_
      refine va_get (D := G.1) (ci := 9) (v := .int (nI sn)) (C := RJ3) (T := TJ3) (N := 4) hx hb hts in_J3 hown hK hP 0 rfl rfl 3 (by decide) (hts _ q256) (fun _ h9 => h9) rfl dJ2_append_3_62 ?_
      refine lv_dup_x1 hx hb dJ2_append_3_65 rfl rfl ?_
      refine lv_iconst (v := nI 1) hx hb dJ2_append_3_66 (by decide) ?_
      refine n_iadd hx hb dJ2_append_3_67 ?_
      refine va_put (D := G.1) (ci := 9) (v := .int (nI (sn + 1))) (ty := .int) (C := RJ3) (T := TJ3) (N := 4) hx hb hts in_J3 tyJ3 tyJ3_ok nmJ3 hown hK hP hD hS 0 rfl rfl 3 (by decide) (hts _ q256) (fun _ h9 => h9) rfl (by decide +kernel) rfl rfl (Nat.le_of_ble_eq_true rfl) dJ2_append_3_68 (fun H locs hP hD hS => ?_)
      have hP : va_P G.1 CL (SOW G sh v2_11 true ml (sn + 1) ++ BAW G v2_11 (cap * 2) g_11) _ := hP
      have hD : va_D A (SOW G sh v2_11 true ml (sn + 1) ++ BAW G v2_11 (cap * 2) g_11) := hD
      refine lv_iload_n hx hb dJ2_append_3_71 rfl (lv_at hl 1 rfl) ?_
      refine callSv (As := [.ref v2_11, .int (nI sn), .int (nI x)]) (rest := []) (wc := (BAW G v2_11 (cap * 2) g_11)) (wr := (SOW G sh v2_11 true ml (sn + 1))) ⟨hx, hb, hml, hown, hts⟩ (m_J5_putCharSB l G v2_11 (cap * 2) g_11 sn x (by have := (hR.2.2 rfl).1; omega) (by have := (hR.2.2 rfl).2.1; omega) (by first | assumption | omega)) (va_cwS 3 hts (lw_S q980 q981 q96 q982) rfl rfl rfl (by decide +kernel) ⟨Nat.le_of_ble_eq_true rfl, Nat.le_of_ble_eq_true rfl⟩) hK hZ hA hP hD hS [1] [0] rfl rfl (by decide) (by decide) (by decide) rfl hl.1 (Nat.le_of_ble_eq_true rfl) ⟨Nat.le_of_ble_eq_true rfl, Nat.le_of_ble_eq_true rfl⟩ rfl dJ2_append_3_72 (fun u9 H locs hw9 hP hD hS => ?_)
      have hP : va_P G.1 CL (SOW G sh v2_11 true ml (sn + 1) ++ BAW G v2_11 (cap * 2) (va_up (va_up g_11 (sn * 2) x) ((sn * 2) + 1) (x / 256))) _ := hP
      have hD : va_D A (SOW G sh v2_11 true ml (sn + 1) ++ BAW G v2_11 (cap * 2) (va_up (va_up g_11 (sn * 2) x) ((sn * 2) + 1) (x / 256))) := hD
      refine lv_aload_n hx hb dJ2_append_3_75 rfl (lv_at hl 0 rfl) ?_
      subst hQ
      refine W.widen (k := 2) (n := 490) (Nat.le_of_ble_eq_true rfl) (Nat.le_of_ble_eq_true rfl) ?_
      exact ret_r hx hb hr (Or.inl ⟨_, rfl⟩) hlk (⟨v2_11, (cap * 2), true, (va_up (va_up g_11 (sn * 2) x) ((sn * 2) + 1) (x / 256))⟩) ⟨rfl, (sbU hR hn hx1 (by dsimp only; omega))⟩ hP hD hS dJ2_append_3_76
    · skip
      refine lv_aload_n hx hb dJ2_append_3_24 rfl (lv_at hl 0 rfl) ?_
      refine va_get (D := G.1) (ci := 9) (v := .ref va) (C := RJ3) (T := TJ3) (N := 4) hx hb hts in_J3 hown hK hP 0 rfl rfl 0 (by decide) (hts _ q252) (fun _ h9 => h9) rfl dJ2_append_3_25 ?_
      refine lv_aload_n hx hb dJ2_append_3_28 rfl (lv_at hl 0 rfl) ?_
      refine lv_dup hx hb dJ2_append_3_29 rfl ?_
      refine va_get (D := G.1) (ci := 9) (v := .int (nI sn)) (C := RJ3) (T := TJ3) (N := 4) hx hb hts in_J3 hown hK hP 0 rfl rfl 3 (by decide) (hts _ q256) (fun _ h9 => h9) rfl dJ2_append_3_30 ?_
      refine lv_dup_x1 hx hb dJ2_append_3_33 rfl rfl ?_
      refine lv_iconst (v := nI 1) hx hb dJ2_append_3_34 (by decide) ?_
      refine n_iadd hx hb dJ2_append_3_35 ?_
      refine va_put (D := G.1) (ci := 9) (v := .int (nI (sn + 1))) (ty := .int) (C := RJ3) (T := TJ3) (N := 4) hx hb hts in_J3 tyJ3 tyJ3_ok nmJ3 hown hK hP hD hS 0 rfl rfl 3 (by decide) (hts _ q256) (fun _ h9 => h9) rfl (by decide +kernel) rfl rfl (Nat.le_of_ble_eq_true rfl) dJ2_append_3_36 (fun H locs hP hD hS => ?_)
      have hP : va_P G.1 CL (SOW G sh va false ml (sn + 1) ++ BAW G va cap yf) _ := hP
      have hD : va_D A (SOW G sh va false ml (sn + 1) ++ BAW G va cap yf) := hD
      refine lv_iload_n hx hb dJ2_append_3_39 rfl (lv_at hl 1 rfl) ?_
      refine lv_i2b (v := b8 x) hx hb dJ2_append_3_40 rfl ?_
      refine y_bast hx hb hK hP hD hS 1 1 rfl rfl (by omega) (by omega) dJ2_append_3_41 (fun H locs hP hD hS => ?_)
      have hP : va_P G.1 CL (SOW G sh va false ml (sn + 1) ++ BAW G va cap (va_up yf sn x)) _ := hP
      have hD : va_D A (SOW G sh va false ml (sn + 1) ++ BAW G va cap (va_up yf sn x)) := hD
      refine lv_goto (tgt := 75) hx hb dJ2_append_3_42 (by decide) ?_
      refine lv_aload_n hx hb dJ2_append_3_75 rfl (lv_at hl 0 rfl) ?_
      subst hQ
      refine W.widen (k := 2) (n := 490) (Nat.le_of_ble_eq_true rfl) (Nat.le_of_ble_eq_true rfl) ?_
      exact ret_r hx hb hr (Or.inl ⟨_, rfl⟩) hlk (⟨va, cap, false, (va_up yf sn x)⟩) ⟨rfl, (sbA hR hn (of_decide_eq_true c21) (by dsimp only; omega))⟩ hP hD hS dJ2_append_3_76
set_option maxHeartbeats 4000000 in
set_option maxRecDepth 100000 in
theorem m_J2_append_3__U (l : Launch) (G : GG) (sh : Nat) (va : Nat) (ml : Bool) (sn : Nat) (cap : Nat) (yf : Nat → Nat) (tx : Nat → Nat) (x : Nat) (hR : SBR cap true sn yf tx) (hn : sn < 60) (hx1 : x < 65536) : MM l G yJ2_append_3 cJ2_append_3 2 (some (.object "java/lang/AbstractStringBuilder")) ⟨4, 2, 490, 86⟩ [.ref sh, .int (nI x)] (SOW G sh va true ml sn ++ BAW G va cap yf) (Qr_ G (fun (r : Nat) (u : (Nat) × (Nat) × (Bool) × (Nat → Nat)) => (r = sh) ∧ (SBR u.2.1 u.2.2.1 (sn + 1) u.2.2.2 (va_up tx sn x))) (fun (r : Nat) (u : (Nat) × (Nat) × (Bool) × (Nat → Nat)) => (SOW G sh u.1 u.2.2.1 ml (sn + 1) ++ BAW G u.1 u.2.1 u.2.2.2))) := by
  refine MM.of (by decide) (Nat.le_of_ble_eq_true rfl) ?_
  intro p e s m args below meth cd A C hini hA hK hZ hP hD ls hl
  generalize hQ : MQ below ((Qr_ G (fun (r : Nat) (u : (Nat) × (Nat) × (Bool) × (Nat → Nat)) => (r = sh) ∧ (SBR u.2.1 u.2.2.1 (sn + 1) u.2.2.2 (va_up tx sn x))) (fun (r : Nat) (u : (Nat) × (Nat) × (Bool) × (Nat → Nat)) => (SOW G sh u.1 u.2.2.1 ml (sn + 1) ++ BAW G u.1 u.2.1 u.2.2.2))) A) args s (⟨4, 2, 490, 86⟩ : Room).cells (⟨4, 2, 490, 86⟩ : Room).slots A = Q
  obtain ⟨hx, hb, hr, hts, hown, hlk, hml⟩ := C
  have hown : s.vm.findClass RJ2 = some m.cls := hown
  have hS : va_S A s.heap s.heap [] := va_S.rf
  have hl : lv_has ls 2 [(0, .ref sh), (1, .int (nI x))] := hl
  refine lv_aload_n hx hb dJ2_append_3_0 rfl (lv_at hl 0 rfl) ?_
  refine lv_aload_n hx hb dJ2_append_3_1 rfl (lv_at hl 0 rfl) ?_
  refine va_get (D := G.1) (ci := 9) (v := .int (nI sn)) (C := RJ3) (T := TJ3) (N := 4) hx hb hts in_J3 hown hK hP 0 rfl rfl 3 (by decide) (hts _ q256) (fun _ h9 => h9) rfl dJ2_append_3_2 ?_
  refine lv_iconst (v := nI 1) hx hb dJ2_append_3_5 (by decide) ?_
  refine n_iadd hx hb dJ2_append_3_6 ?_
  rcases Nat.lt_or_ge (cap / 2) (sn + 1) with c7 | c7
  · skip
    refine callVv (As := [.int (nI (sn + 1))]) (rest := []) (wc := (SOW G sh va true ml sn ++ BAW G va cap yf)) (wr := ([] : va_W)) ⟨hx, hb, hml, hown, hts⟩ (m_J2_ensureCapacityInternal__Ug l G sh va ml sn cap yf (sn + 1) (by first | assumption | omega) (by first | assumption | omega)) ⟨callB_of 1 hts (lw_meth q710) rfl rfl rfl (hts _ q93) (hts _ q707) (by decide +kernel) ⟨Nat.le_of_ble_eq_true rfl, Nat.le_of_ble_eq_true rfl⟩, hts _ q709, (hZ.selP (by decide) (lw_all_tbl q235) q708 (lw_all_tbl q709) (lw_all_tbl q2183))⟩ hK hZ hA hP hD hS [0, 1] [] rfl rfl (by decide) (by decide) (by decide) 0 9 rfl rfl rfl hl.1 (Nat.le_of_ble_eq_true rfl) ⟨Nat.le_of_ble_eq_true rfl, Nat.le_of_ble_eq_true rfl⟩ rfl dJ2_append_3_7 (fun u9 H locs hw9 hP hD hS => ?_)
    refine W.widen (k := 1) (n := 246) (Nat.le_refl _) (Nat.le_refl _) ?_
    obtain ⟨v2_1, e9⟩ : ∃ z, z = u9 := ⟨_, rfl⟩
    subst e9
    have hP : va_P G.1 CL (SOW G sh v2_1 true ml sn ++ BAW G v2_1 (((cap + max ((sn + 1) * 2 - cap) (cap + (2 * 2))) / 2) * 2) (va_cpy yf (fun _ => 0) 0 0 (min cap (((cap + max ((sn + 1) * 2 - cap) (cap + (2 * 2))) / 2) * 2)))) _ := hP
    have hD : va_D A (SOW G sh v2_1 true ml sn ++ BAW G v2_1 (((cap + max ((sn + 1) * 2 - cap) (cap + (2 * 2))) / 2) * 2) (va_cpy yf (fun _ => 0) 0 0 (min cap (((cap + max ((sn + 1) * 2 - cap) (cap + (2 * 2))) / 2) * 2)))) := hD
    have hR := sbGU hR hn c7
    refine lv_aload_n hx hb dJ2_append_3_10 rfl (lv_at hl 0 rfl) ?_
    refine callVi (As := []) (rest := []) (wc := (SOW G sh v2_1 true ml sn)) (wr := (BAW G v2_1 (((cap + max ((sn + 1) * 2 - cap) (cap + (2 * 2))) / 2) * 2) (va_cpy yf (fun _ => 0) 0 0 (min cap (((cap + max ((sn + 1) * 2 - cap) (cap + (2 * 2))) / 2) * 2))))) ⟨hx, hb, hml, hown, hts⟩ (m_J2_isLatin1__U l G sh v2_1 ml sn ) ⟨callB_of 0 hts (lw_meth q740) rfl rfl rfl (hts _ q93) (hts _ q736) (by decide +kernel) ⟨Nat.le_of_ble_eq_true rfl, Nat.le_of_ble_eq_true rfl⟩, hts _ q737, (hts _ q739)⟩ hK hZ hA hP hD hS [0] [1] rfl rfl (by decide) (by decide) (by decide) 0 9 rfl rfl rfl hl.1 (Nat.le_of_ble_eq_true rfl) ⟨Nat.le_of_ble_eq_true rfl, Nat.le_of_ble_eq_true rfl⟩ rfl dJ2_append_3_11 (fun r9 u9 H locs hw9 hP hD hS => ?_)
    subst hw9
    obtain ⟨hP, hD⟩ := re_PD (w := (SOW G sh v2_1 true ml sn ++ BAW G v2_1 (((cap + max ((sn + 1) * 2 - cap) (cap + (2 * 2))) / 2) * 2) (va_cpy yf (fun _ => 0) 0 0 (min cap (((cap + max ((sn + 1) * 2 - cap) (cap + (2 * 2))) / 2) * 2))))) hP hD [1, 0] (by decide) rfl
    refine n_if_eq (tgt := 45) hx hb dJ2_append_3_14 (by decide) (by decide) (fun c14 => ?_) (fun c14 => ?_)
    rotate_left
    · exact absurd c14 (by decide)
    refine lv_aload_n hx hb dJ2_append_3_45 rfl (lv_at hl 0 rfl) ?_
    refine callVi (As := []) (rest := []) (wc := (SOW G sh v2_1 true ml sn)) (wr := (BAW G v2_1 (((cap + max ((sn + 1) * 2 - cap) (cap + (2 * 2))) / 2) * 2) (va_cpy yf (fun _ => 0) 0 0 (min cap (((cap + max ((sn + 1) * 2 - cap) (cap + (2 * 2))) / 2) * 2))))) ⟨hx, hb, hml, hown, hts⟩ (m_J2_isLatin1__U l G sh v2_1 ml sn ) ⟨callB_of 0 hts (lw_meth q740) rfl rfl rfl (hts _ q93) (hts _ q736) (by decide +kernel) ⟨Nat.le_of_ble_eq_true rfl, Nat.le_of_ble_eq_true rfl⟩, hts _ q737, (hts _ q739)⟩ hK hZ hA hP hD hS [0] [1] rfl rfl (by decide) (by decide) (by decide) 0 9 rfl rfl rfl hl.1 (Nat.le_of_ble_eq_true rfl) ⟨Nat.le_of_ble_eq_true rfl, Nat.le_of_ble_eq_true rfl⟩ rfl dJ2_append_3_46 (fun r9 u9 H locs hw9 hP hD hS => ?_)
    subst hw9
    obtain ⟨hP, hD⟩ := re_PD (w := (SOW G sh v2_1 true ml sn ++ BAW G v2_1 (((cap + max ((sn + 1) * 2 - cap) (cap + (2 * 2))) / 2) * 2) (va_cpy yf (fun _ => 0) 0 0 (min cap (((cap + max ((sn + 1) * 2 - cap) (cap + (2 * 2))) / 2) * 2))))) hP hD [1, 0] (by decide) rfl
    refine n_if_eq (tgt := 56) hx hb dJ2_append_3_49 (by decide) (by decide) (fun c49 => ?_) (fun c49 => ?_)
    rotate_left
    · exact absurd c49 (by decide)
    refine lv_aload_n hx hb dJ2_append_3_56 rfl (lv_at hl 0 rfl) ?_
    refine va_get (D := G.1) (ci := 9) (v := .ref v2_1) (C := RJ3) (T := TJ3) (N := 4) hx hb hts in_J3 hown hK hP 0 rfl rfl 0 (by decide) (hts _ q252) (fun _ h9 => h9) rfl dJ2_append_3_57 ?_
    refine lv_aload_n hx hb dJ2_append_3_60 rfl (lv_at hl 0 rfl) ?_
    refine lv_dup hx hb dJ2_append_3_61 rfl ?_
    refine va_get (D := G.1) (ci := 9) (v := .int (nI sn)) (C := RJ3) (T := TJ3) (N := 4) hx hb hts in_J3 hown hK hP 0 rfl rfl 3 (by decide) (hts _ q256) (fun _ h9 => h9) rfl dJ2_append_3_62 ?_
    refine lv_dup_x1 hx hb dJ2_append_3_65 rfl rfl ?_
    refine lv_iconst (v := nI 1) hx hb dJ2_append_3_66 (by decide) ?_
    refine n_iadd hx hb dJ2_append_3_67 ?_
    refine va_put (D := G.1) (ci := 9) (v := .int (nI (sn + 1))) (ty := .int) (C := RJ3) (T := TJ3) (N := 4) hx hb hts in_J3 tyJ3 tyJ3_ok nmJ3 hown hK hP hD hS 0 rfl rfl 3 (by decide) (hts _ q256) (fun _ h9 => h9) rfl (by decide +kernel) rfl rfl (Nat.le_of_ble_eq_true rfl) dJ2_append_3_68 (fun H locs hP hD hS => ?_)
    have hP : va_P G.1 CL (SOW G sh v2_1 true ml (sn + 1) ++ BAW G v2_1 (((cap + max ((sn + 1) * 2 - cap) (cap + (2 * 2))) / 2) * 2) (va_cpy yf (fun _ => 0) 0 0 (min cap (((cap + max ((sn + 1) * 2 - cap) (cap + (2 * 2))) / 2) * 2)))) _ := hP
    have hD : va_D A (SOW G sh v2_1 true ml (sn + 1) ++ BAW G v2_1 (((cap + max ((sn + 1) * 2 - cap) (cap + (2 * 2))) / 2) * 2) (va_cpy yf (fun _ => 0) 0 0 (min cap (((cap + max ((sn + 1) * 2 - cap) (cap + (2 * 2))) / 2) * 2)))) := hD
    refine lv_iload_n hx hb dJ2_append_3_71 rfl (lv_at hl 1 rfl) ?_
    refine callSv (As := [.ref v2_1, .int (nI sn), .int (nI x)]) (rest := []) (wc := (BAW G v2_1 (((cap + max ((sn + 1) * 2 - cap) (cap + (2 * 2))) / 2) * 2) (va_cpy yf (fun _ => 0) 0 0 (min cap (((cap + max ((sn + 1) * 2 - cap) (cap + (2 * 2))) / 2) * 2))))) (wr := (SOW G sh v2_1 true ml (sn + 1))) ⟨hx, hb, hml, hown, hts⟩ (m_J5_putCharSB l G v2_1 (((cap + max ((sn + 1) * 2 - cap) (cap + (2 * 2))) / 2) * 2) (va_cpy yf (fun _ => 0) 0 0 (min cap (((cap + max ((sn + 1) * 2 - cap) (cap + (2 * 2))) / 2) * 2))) sn x (by omega) (by have := (hR.2.2 rfl).2.1; omega) (by first | assumption | omega)) (va_cwS 3 hts (lw_S q980 q981 q96 q982) rfl rfl rfl (by decide +kernel) ⟨Nat.le_of_ble_eq_true rfl, Nat.le_of_ble_eq_true rfl⟩) hK hZ hA hP hD hS [1] [0] rfl rfl (by decide) (by decide) (by decide) rfl hl.1 (Nat.le_of_ble_eq_true rfl) ⟨Nat.le_of_ble_eq_true rfl, Nat.le_of_ble_eq_true rfl⟩ rfl dJ2_append_3_72 (fun u9 H locs hw9 hP hD hS => ?_)
    have hP : va_P G.1 CL (SOW G sh v2_1 true ml (sn + 1) ++ BAW G v2_1 (((cap + max ((sn + 1) * 2 - cap) (cap + (2 * 2))) / 2) * 2) (va_up (va_up (va_cpy yf (fun _ => 0) 0 0 (min cap (((cap + max ((sn + 1) * 2 - cap) (cap + (2 * 2))) / 2) * 2))) (sn * 2) x) ((sn * 2) + 1) (x / 256))) _ := hP
    have hD : va_D A (SOW G sh v2_1 true ml (sn + 1) ++ BAW G v2_1 (((cap + max ((sn + 1) * 2 - cap) (cap + (2 * 2))) / 2) * 2) (va_up (va_up (va_cpy yf (fun _ => 0) 0 0 (min cap (((cap + max ((sn + 1) * 2 - cap) (cap + (2 * 2))) / 2) * 2))) (sn * 2) x) ((sn * 2) + 1) (x / 256))) := hD
    refine lv_aload_n hx hb dJ2_append_3_75 rfl (lv_at hl 0 rfl) ?_
    subst hQ
    refine W.widen (k := 2) (n := 490) (Nat.le_of_ble_eq_true rfl) (Nat.le_of_ble_eq_true rfl) ?_
    exact ret_r hx hb hr (Or.inl ⟨_, rfl⟩) hlk (⟨v2_1, (((cap + max ((sn + 1) * 2 - cap) (cap + (2 * 2))) / 2) * 2), true, (va_up (va_up (va_cpy yf (fun _ => 0) 0 0 (min cap (((cap + max ((sn + 1) * 2 - cap) (cap + (2 * 2))) / 2) * 2))) (sn * 2) x) ((sn * 2) + 1) (x / 256))⟩) ⟨rfl, (sbU hR hn hx1 (by dsimp only; omega))⟩ hP hD hS dJ2_append_3_76
  · skip
    refine callVv (As := [.int (nI (sn + 1))]) (rest := []) (wc := (SOW G sh va true ml sn ++ BAW G va cap yf)) (wr := ([] : va_W)) ⟨hx, hb, hml, hown, hts⟩ (m_J2_ensureCapacityInternal__Uk l G sh va ml sn cap yf (sn + 1) (by first | assumption | omega) (by have := (hR.2.2 rfl).2.1; omega)) ⟨callB_of 1 hts (lw_meth q710) rfl rfl rfl (hts _ q93) (hts _ q707) (by decide +kernel) ⟨Nat.le_of_ble_eq_true rfl, Nat.le_of_ble_eq_true rfl⟩, hts _ q709, (hZ.selP (by decide) (lw_all_tbl q235) q708 (lw_all_tbl q709) (lw_all_tbl q2183))⟩ hK hZ hA hP hD hS [0, 1] [] rfl rfl (by decide) (by decide) (by decide) 0 9 rfl rfl rfl hl.1 (Nat.le_of_ble_eq_true rfl) ⟨Nat.le_of_ble_eq_true rfl, Nat.le_of_ble_eq_true rfl⟩ rfl dJ2_append_3_7 (fun u9 H locs hw9 hP hD hS => ?_)
    have hP : va_P G.1 CL (SOW G sh va true ml sn ++ BAW G va cap yf) _ := hP
    have hD : va_D A (SOW G sh va true ml sn ++ BAW G va cap yf) := hD
    refine lv_aload_n hx hb dJ2_append_3_10 rfl (lv_at hl 0 rfl) ?_
    refine callVi (As := []) (rest := []) (wc := (SOW G sh va true ml sn)) (wr := (BAW G va cap yf)) ⟨hx, hb, hml, hown, hts⟩ (m_J2_isLatin1__U l G sh va ml sn ) ⟨callB_of 0 hts (lw_meth q740) rfl rfl rfl (hts _ q93) (hts _ q736) (by decide +kernel) ⟨Nat.le_of_ble_eq_true rfl, Nat.le_of_ble_eq_true rfl⟩, hts _ q737, (hts _ q739)⟩ hK hZ hA hP hD hS [0] [1] rfl rfl (by decide) (by decide) (by decide) 0 9 rfl rfl rfl hl.1 (Nat.le_of_ble_eq_true rfl) ⟨Nat.le_of_ble_eq_true rfl, Nat.le_of_ble_eq_true rfl⟩ rfl dJ2_append_3_11 (fun r9 u9 H locs hw9 hP hD hS => ?_)
    subst hw9
    obtain ⟨hP, hD⟩ := re_PD (w := (SOW G sh va true ml sn ++ BAW G va cap yf)) hP hD [1, 0] (by decide) rfl
    refine n_if_eq (tgt := 45) hx hb dJ2_append_3_14 (by decide) (by decide) (fun c14 => ?_) (fun c14 => ?_)
    rotate_left
    · exact absurd c14 (by decide)
    refine lv_aload_n hx hb dJ2_append_3_45 rfl (lv_at hl 0 rfl) ?_
    refine callVi (As := []) (rest := []) (wc := (SOW G sh va true ml sn)) (wr := (BAW G va cap yf)) ⟨hx, hb, hml, hown, hts⟩ (m_J2_isLatin1__U l G sh va ml sn ) ⟨callB_of 0 hts (lw_meth q740) rfl rfl rfl (hts _ q93) (hts _ q736) (by decide +kernel) ⟨Nat.le_of_ble_eq_true rfl, Nat.le_of_ble_eq_true rfl⟩, hts _ q737, (hts _ q739)⟩ hK hZ hA hP hD hS [0] [1] rfl rfl (by decide) (by decide) (by decide) 0 9 rfl rfl rfl hl.1 (Nat.le_of_ble_eq_true rfl) ⟨Nat.le_of_ble_eq_true rfl, Nat.le_of_ble_eq_true rfl⟩ rfl dJ2_append_3_46 (fun r9 u9 H locs hw9 hP hD hS => ?_)
    subst hw9
    obtain ⟨hP, hD⟩ := re_PD (w := (SOW G sh va true ml sn ++ BAW G va cap yf)) hP hD [1, 0] (by decide) rfl
    refine n_if_eq (tgt := 56) hx hb dJ2_append_3_49 (by decide) (by decide) (fun c49 => ?_) (fun c49 => ?_)
    rotate_left
    · exact absurd c49 (by decide)
    refine lv_aload_n hx hb dJ2_append_3_56 rfl (lv_at hl 0 rfl) ?_
    refine va_get (D := G.1) (ci := 9) (v := .ref va) (C := RJ3) (T := TJ3) (N := 4) hx hb hts in_J3 hown hK hP 0 rfl rfl 0 (by decide) (hts _ q252) (fun _ h9 => h9) rfl dJ2_append_3_57 ?_
    refine lv_aload_n hx hb dJ2_append_3_60 rfl (lv_at hl 0 rfl) ?_
    refine lv_dup hx hb dJ2_append_3_61 rfl ?_
    refine va_get (D := G.1) (ci := 9) (v := .int (nI sn)) (C := RJ3) (T := TJ3) (N := 4) hx hb hts in_J3 hown hK hP 0 rfl rfl 3 (by decide) (hts _ q256) (fun _ h9 => h9) rfl dJ2_append_3_62 ?_
    refine lv_dup_x1 hx hb dJ2_append_3_65 rfl rfl ?_
    refine lv_iconst (v := nI 1) hx hb dJ2_append_3_66 (by decide) ?_
    refine n_iadd hx hb dJ2_append_3_67 ?_
    refine va_put (D := G.1) (ci := 9) (v := .int (nI (sn + 1))) (ty := .int) (C := RJ3) (T := TJ3) (N := 4) hx hb hts in_J3 tyJ3 tyJ3_ok nmJ3 hown hK hP hD hS 0 rfl rfl 3 (by decide) (hts _ q256) (fun _ h9 => h9) rfl (by decide +kernel) rfl rfl (Nat.le_of_ble_eq_true rfl) dJ2_append_3_68 (fun H locs hP hD hS => ?_)
    have hP : va_P G.1 CL (SOW G sh va true ml (sn + 1) ++ BAW G va cap yf) _ := hP
    have hD : va_D A (SOW G sh va true ml (sn + 1) ++ BAW G va cap yf) := hD
    refine lv_iload_n hx hb dJ2_append_3_71 rfl (lv_at hl 1 rfl) ?_
    refine callSv (As := [.ref va, .int (nI sn), .int (nI x)]) (rest := []) (wc := (BAW G va cap yf)) (wr := (SOW G sh va true ml (sn + 1))) ⟨hx, hb, hml, hown, hts⟩ (m_J5_putCharSB l G va cap yf sn x (by omega) (by have := (hR.2.2 rfl).2.1; omega) (by first | assumption | omega)) (va_cwS 3 hts (lw_S q980 q981 q96 q982) rfl rfl rfl (by decide +kernel) ⟨Nat.le_of_ble_eq_true rfl, Nat.le_of_ble_eq_true rfl⟩) hK hZ hA hP hD hS [1] [0] rfl rfl (by decide) (by decide) (by decide) rfl hl.1 (Nat.le_of_ble_eq_true rfl) ⟨Nat.le_of_ble_eq_true rfl, Nat.le_of_ble_eq_true rfl⟩ rfl dJ2_append_3_72 (fun u9 H locs hw9 hP hD hS => ?_)
    have hP : va_P G.1 CL (SOW G sh va true ml (sn + 1) ++ BAW G va cap (va_up (va_up yf (sn * 2) x) ((sn * 2) + 1) (x / 256))) _ := hP
    have hD : va_D A (SOW G sh va true ml (sn + 1) ++ BAW G va cap (va_up (va_up yf (sn * 2) x) ((sn * 2) + 1) (x / 256))) := hD
    refine lv_aload_n hx hb dJ2_append_3_75 rfl (lv_at hl 0 rfl) ?_
    subst hQ
    refine W.widen (k := 2) (n := 490) (Nat.le_of_ble_eq_true rfl) (Nat.le_of_ble_eq_true rfl) ?_
    exact ret_r hx hb hr (Or.inl ⟨_, rfl⟩) hlk (⟨va, cap, true, (va_up (va_up yf (sn * 2) x) ((sn * 2) + 1) (x / 256))⟩) ⟨rfl, (sbU hR hn hx1 (by dsimp only; omega))⟩ hP hD hS dJ2_append_3_76
set_option maxHeartbeats 4000000 in
set_option maxRecDepth 100000 in
theorem m_J3_append_3__L (l : Launch) (G : GG) (sh : Nat) (va : Nat) (ml : Bool) (sn : Nat) (cap : Nat) (yf : Nat → Nat) (tx : Nat → Nat) (x : Nat) (hR : SBR cap false sn yf tx) (hn : sn < 60) (hx1 : x < 65536) : MM l G yJ3_append_3 cJ3_append_3 2 (some (.object "java/lang/StringBuilder")) ⟨7, 2, 490, 158⟩ [.ref sh, .int (nI x)] (SOW G sh va false ml sn ++ BAW G va cap yf) (Qr_ G (fun (r : Nat) (u : (Nat) × (Nat) × (Bool) × (Nat → Nat)) => (r = sh) ∧ (SBR u.2.1 u.2.2.1 (sn + 1) u.2.2.2 (va_up tx sn x))) (fun (r : Nat) (u : (Nat) × (Nat) × (Bool) × (Nat → Nat)) => (SOW G sh u.1 u.2.2.1 ml (sn + 1) ++ BAW G u.1 u.2.1 u.2.2.2))) := by
  refine MM.of (by decide) (Nat.le_of_ble_eq_true rfl) ?_
  intro p e s m args below meth cd A C hini hA hK hZ hP hD ls hl
  generalize hQ : MQ below ((Qr_ G (fun (r : Nat) (u : (Nat) × (Nat) × (Bool) × (Nat → Nat)) => (r = sh) ∧ (SBR u.2.1 u.2.2.1 (sn + 1) u.2.2.2 (va_up tx sn x))) (fun (r : Nat) (u : (Nat) × (Nat) × (Bool) × (Nat → Nat)) => (SOW G sh u.1 u.2.2.1 ml (sn + 1) ++ BAW G u.1 u.2.1 u.2.2.2))) A) args s (⟨7, 2, 490, 158⟩ : Room).cells (⟨7, 2, 490, 158⟩ : Room).slots A = Q
  obtain ⟨hx, hb, hr, hts, hown, hlk, hml⟩ := C
  have hown : s.vm.findClass RJ3 = some m.cls := hown
  have hS : va_S A s.heap s.heap [] := va_S.rf
  have hl : lv_has ls 2 [(0, .ref sh), (1, .int (nI x))] := hl
  refine lv_aload_n hx hb dJ3_append_3_0 rfl (lv_at hl 0 rfl) ?_
  refine lv_iload_n hx hb dJ3_append_3_1 rfl (lv_at hl 1 rfl) ?_
  refine callSUr (As := [.int (nI x)]) (rest := []) (wc := (SOW G sh va false ml sn ++ BAW G va cap yf)) (wr := ([] : va_W)) ⟨hx, hb, hml, hown, hts⟩ (m_J2_append_3__L l G sh va ml sn cap yf tx x (by first | assumption | omega) (by first | assumption | omega) (by first | assumption | omega)) (va_cwSU 1 hts (lw_SU q974 q2189 q265 q975 q93 q976) rfl rfl rfl (by decide +kernel) ⟨Nat.le_of_ble_eq_true rfl, Nat.le_of_ble_eq_true rfl⟩) hK hZ hA hP hD hS [0, 1] [] rfl rfl (by decide) (by decide) (by decide) 0 9 rfl rfl rfl hl.1 (Nat.le_of_ble_eq_true rfl) ⟨Nat.le_of_ble_eq_true rfl, Nat.le_of_ble_eq_true rfl⟩ rfl dJ3_append_3_2 (fun r9 u9 H locs hw9 hP hD hS => ?_)
  refine W.widen (k := 2) (n := 490) (Nat.le_refl _) (Nat.le_refl _) ?_
  obtain ⟨v2_1, cap2_1, cd2_1, g_1⟩ := u9
  obtain ⟨hr9, hw2⟩ := hw9
  subst r9
  have hw2 : SBR cap2_1 cd2_1 (sn + 1) g_1 (va_up tx sn x) := hw2
  have hP : va_P G.1 CL (SOW G sh v2_1 cd2_1 ml (sn + 1) ++ BAW G v2_1 cap2_1 g_1) _ := hP
  have hD : va_D A (SOW G sh v2_1 cd2_1 ml (sn + 1) ++ BAW G v2_1 cap2_1 g_1) := hD
  refine lv_pop hx hb dJ3_append_3_5 rfl ?_
  refine lv_aload_n hx hb dJ3_append_3_6 rfl (lv_at hl 0 rfl) ?_
  subst hQ
  exact ret_r hx hb hr (Or.inl ⟨_, rfl⟩) hlk (⟨v2_1, cap2_1, cd2_1, g_1⟩) ⟨rfl, hw2⟩ hP hD hS dJ3_append_3_7
set_option maxHeartbeats 4000000 in
set_option maxRecDepth 100000 in
theorem m_J2_charAt__L (l : Launch) (G : GG) (sh : Nat) (va : Nat) (ml : Bool) (sn : Nat) (cap : Nat) (yf : Nat → Nat) (tx : Nat → Nat) (i : Nat) (hR : SBR cap false sn yf tx) (hi : i < sn) : MM l G yJ2_charAt cJ2_charAt 5 (some .char) ⟨2, 0, 0, 43⟩ [.ref sh, .int (nI i)] (SOW G sh va false ml sn ++ BAW G va cap yf) (Qi_ G (fun (r : Int32) (_ : Unit) => r = nI (tx i)) (fun (_ : Unit) => (SOW G sh va false ml sn ++ BAW G va cap yf))) := by
  refine MM.of (by decide) (Nat.le_of_ble_eq_true rfl) ?_
  intro p e s m args below meth cd A C hini hA hK hZ hP hD ls hl
  generalize hQ : MQ below ((Qi_ G (fun (r : Int32) (_ : Unit) => r = nI (tx i)) (fun (_ : Unit) => (SOW G sh va false ml sn ++ BAW G va cap yf))) A) args s (⟨2, 0, 0, 43⟩ : Room).cells (⟨2, 0, 0, 43⟩ : Room).slots A = Q
  obtain ⟨hx, hb, hr, hts, hown, hlk, hml⟩ := C
  have hown : s.vm.findClass RJ2 = some m.cls := hown
  have hS : va_S A s.heap s.heap [] := va_S.rf
  have hl : lv_has ls 5 [(0, .ref sh), (1, .int (nI i))] := hl
  obtain ⟨r2, r3, r4⟩ := hR.2.1 rfl
  refine lv_aload_n hx hb dJ2_charAt_0 rfl (lv_at hl 0 rfl) ?_
  refine va_get (D := G.1) (ci := 9) (v := .int (bI false)) (C := RJ3) (T := TJ3) (N := 4) hx hb hts in_J3 hown hK hP 0 rfl rfl 1 (by decide) (hts _ q253) (fun _ h9 => h9) rfl dJ2_charAt_1 ?_
  refine lv_istore_n (lv' := [(2, .int (bI false)), (0, .ref sh), (1, .int (nI i))]) hx hb dJ2_charAt_4 rfl hl (by decide) rfl (fun ls hl => ?_)
  refine lv_aload_n hx hb dJ2_charAt_5 rfl (lv_at hl 1 rfl) ?_
  refine va_get (D := G.1) (ci := 9) (v := .ref va) (C := RJ3) (T := TJ3) (N := 4) hx hb hts in_J3 hown hK hP 0 rfl rfl 0 (by decide) (hts _ q252) (fun _ h9 => h9) rfl dJ2_charAt_6 ?_
  refine lv_astore_n (lv' := [(3, .ref va), (2, .int (bI false)), (0, .ref sh), (1, .int (nI i))]) hx hb dJ2_charAt_9 rfl hl (by decide) rfl (fun ls hl => ?_)
  refine lv_aload_n hx hb dJ2_charAt_10 rfl (lv_at hl 2 rfl) ?_
  refine va_get (D := G.1) (ci := 9) (v := .int (nI sn)) (C := RJ3) (T := TJ3) (N := 4) hx hb hts in_J3 hown hK hP 0 rfl rfl 3 (by decide) (hts _ q256) (fun _ h9 => h9) rfl dJ2_charAt_11 ?_
  refine lv_aload_n hx hb dJ2_charAt_14 rfl (lv_at hl 0 rfl) ?_
  refine va_alen (v := nI cap) hx hb hK hP 1 1 rfl rfl rfl dJ2_charAt_15 ?_
  refine lv_iload_n hx hb dJ2_charAt_16 rfl (lv_at hl 1 rfl) ?_
  refine n_ishr 0 hx hb rfl (by decide) (by omega) dJ2_charAt_17 ?_
  refine eq_i (y := nI cap) (congrArg nI (Nat.div_one _)) ?_
  refine n_mmin hx hb (by rw [hml]; exact hl.1.symm) hown (hts _ q1522) (hts _ q422) (hts _ q103) (hts _ q423) (Nat.le_of_ble_eq_true rfl) (Nat.le_of_ble_eq_true rfl) (Nat.le_of_ble_eq_true rfl) (Nat.le_of_ble_eq_true rfl) (by omega) (by omega) dJ2_charAt_18 ?_
  refine lv_istore (lv' := [(4, .int (nI (min sn cap))), (3, .ref va), (2, .int (bI false)), (0, .ref sh), (1, .int (nI i))]) hx hb dJ2_charAt_21 hl (by decide) rfl (fun ls hl => ?_)
  refine lv_iload_n hx hb dJ2_charAt_23 rfl (lv_at hl 4 rfl) ?_
  refine lv_iload hx hb dJ2_charAt_24 (lv_at hl 0 rfl) ?_
  refine callSv (As := [.int (nI i), .int (nI (min sn cap))]) (rest := []) (wc := ([] : va_W)) (wr := (SOW G sh va false ml sn ++ BAW G va cap yf)) ⟨hx, hb, hml, hown, hts⟩ (m_J4_checkIndex l G i (min sn cap) (by first | assumption | omega) (by first | assumption | omega)) (va_cwS 2 hts (lw_S q1523 q987 q95 q988) rfl rfl rfl (by decide +kernel) ⟨Nat.le_of_ble_eq_true rfl, Nat.le_of_ble_eq_true rfl⟩) hK hZ hA hP hD hS [] [0, 1] rfl rfl (by decide) (by decide) (by decide) rfl hl.1 (Nat.le_of_ble_eq_true rfl) ⟨Nat.le_of_ble_eq_true rfl, Nat.le_of_ble_eq_true rfl⟩ rfl dJ2_charAt_26 (fun u9 H locs hw9 hP hD hS => ?_)
  have hP : va_P G.1 CL (SOW G sh va false ml sn ++ BAW G va cap yf) _ := hP
  have hD : va_D A (SOW G sh va false ml sn ++ BAW G va cap yf) := hD
  refine lv_iload_n hx hb dJ2_charAt_29 rfl (lv_at hl 2 rfl) ?_
  refine b_if_ne (tgt := 42) hx hb dJ2_charAt_30 (by decide) (fun c30 => ?_) (fun c30 => ?_)
  · exact absurd c30 (by decide)
  refine lv_aload_n hx hb dJ2_charAt_33 rfl (lv_at hl 1 rfl) ?_
  refine lv_iload_n hx hb dJ2_charAt_34 rfl (lv_at hl 4 rfl) ?_
  refine y_bald hx hb hK hP 1 1 rfl rfl (by omega) (by omega) dJ2_charAt_35 ?_
  refine lv_sipush (v := nI 255) hx hb dJ2_charAt_36 (by decide) ?_
  refine lv_iand hx hb dJ2_charAt_39 ?_
  refine eq_i (y := nI ((yf i) % 256)) (b8_and _) ?_
  refine n_i2c hx hb (by omega) dJ2_charAt_40 ?_
  subst hQ
  exact ret_i hx hb hr hlk () (congrArg nI (r4 i hi)) hP hD hS (pk_charN (by omega)).1 dJ2_charAt_41
set_option maxHeartbeats 4000000 in
set_option maxRecDepth 100000 in
theorem m_J3_charAt__L (l : Launch) (G : GG) (sh : Nat) (va : Nat) (ml : Bool) (sn : Nat) (cap : Nat) (yf : Nat → Nat) (tx : Nat → Nat) (i : Nat) (hR : SBR cap false sn yf tx) (hi : i < sn) (htx : tx i < 65536) : MM l G yJ3_charAt cJ3_charAt 2 (some .char) ⟨3, 0, 0, 67⟩ [.ref sh, .int (nI i)] (SOW G sh va false ml sn ++ BAW G va cap yf) (Qi_ G (fun (r : Int32) (_ : Unit) => r = nI (tx i)) (fun (_ : Unit) => (SOW G sh va false ml sn ++ BAW G va cap yf))) := by
  refine MM.of (by decide) (Nat.le_of_ble_eq_true rfl) ?_
  intro p e s m args below meth cd A C hini hA hK hZ hP hD ls hl
  generalize hQ : MQ below ((Qi_ G (fun (r : Int32) (_ : Unit) => r = nI (tx i)) (fun (_ : Unit) => (SOW G sh va false ml sn ++ BAW G va cap yf))) A) args s (⟨3, 0, 0, 67⟩ : Room).cells (⟨3, 0, 0, 67⟩ : Room).slots A = Q
  obtain ⟨hx, hb, hr, hts, hown, hlk, hml⟩ := C
  have hown : s.vm.findClass RJ3 = some m.cls := hown
  have hS : va_S A s.heap s.heap [] := va_S.rf
  have hl : lv_has ls 2 [(0, .ref sh), (1, .int (nI i))] := hl
  refine lv_aload_n hx hb dJ3_charAt_0 rfl (lv_at hl 0 rfl) ?_
  refine lv_iload_n hx hb dJ3_charAt_1 rfl (lv_at hl 1 rfl) ?_
  refine callSUi (As := [.int (nI i)]) (rest := []) (wc := (SOW G sh va false ml sn ++ BAW G va cap yf)) (wr := ([] : va_W)) ⟨hx, hb, hml, hown, hts⟩ (m_J2_charAt__L l G sh va ml sn cap yf tx i (by first | assumption | omega) (by first | assumption | omega)) (va_cwSU 1 hts (lw_SU q1519 q2191 q265 q1520 q93 q1521) rfl rfl rfl (by decide +kernel) ⟨Nat.le_of_ble_eq_true rfl, Nat.le_of_ble_eq_true rfl⟩) hK hZ hA hP hD hS [0, 1] [] rfl rfl (by decide) (by decide) (by decide) 0 9 rfl rfl rfl hl.1 (Nat.le_of_ble_eq_true rfl) ⟨Nat.le_of_ble_eq_true rfl, Nat.le_of_ble_eq_true rfl⟩ rfl dJ3_charAt_2 (fun r9 u9 H locs hw9 hP hD hS => ?_)
  subst hw9
  have hP : va_P G.1 CL (SOW G sh va false ml sn ++ BAW G va cap yf) _ := hP
  have hD : va_D A (SOW G sh va false ml sn ++ BAW G va cap yf) := hD
  subst hQ
  exact ret_i hx hb hr hlk () rfl hP hD hS (pk_charN (by omega)).1 dJ3_charAt_5
set_option maxHeartbeats 4000000 in
set_option maxRecDepth 100000 in
theorem m_J2_setLength__L (l : Launch) (G : GG) (sh : Nat) (va : Nat) (ml : Bool) (sn : Nat) (cap : Nat) (yf : Nat → Nat) (tx : Nat → Nat) (hR : SBR cap false sn yf tx) : MM l G yJ2_setLength cJ2_setLength 2 none ⟨1, 0, 0, 22⟩ [.ref sh, .int (nI 0)] (SOW G sh va false ml sn ++ BAW G va cap yf) (Qv_ G (fun (u : (Bool)) => True) (fun (u : (Bool)) => (SOW G sh va false u 0 ++ BAW G va cap yf))) := by
  refine MM.of (by decide) (Nat.le_of_ble_eq_true rfl) ?_
  intro p e s m args below meth cd A C hini hA hK hZ hP hD ls hl
  generalize hQ : MQ below ((Qv_ G (fun (u : (Bool)) => True) (fun (u : (Bool)) => (SOW G sh va false u 0 ++ BAW G va cap yf))) A) args s (⟨1, 0, 0, 22⟩ : Room).cells (⟨1, 0, 0, 22⟩ : Room).slots A = Q
  obtain ⟨hx, hb, hr, hts, hown, hlk, hml⟩ := C
  have hown : s.vm.findClass RJ2 = some m.cls := hown
  have hS : va_S A s.heap s.heap [] := va_S.rf
  have hl : lv_has ls 2 [(0, .ref sh), (1, .int (nI 0))] := hl
  have r1 := hR.1
  obtain ⟨r2, r3, r4⟩ := hR.2.1 rfl
  refine lv_iload_n hx hb dJ2_setLength_0 rfl (lv_at hl 1 rfl) ?_
  refine n_if_ge (tgt := 13) hx hb dJ2_setLength_1 (by decide) (by omega) ?_
  refine lv_aload_n hx hb dJ2_setLength_13 rfl (lv_at hl 0 rfl) ?_
  refine lv_iload_n hx hb dJ2_setLength_14 rfl (lv_at hl 1 rfl) ?_
  refine callVv (As := [.int (nI 0)]) (rest := []) (wc := (SOW G sh va false ml sn ++ BAW G va cap yf)) (wr := ([] : va_W)) ⟨hx, hb, hml, hown, hts⟩ (m_J2_ensureCapacityInternal__Lk l G sh va ml sn cap yf 0 (by first | assumption | omega) (by first | assumption | omega)) ⟨callB_of 1 hts (lw_meth q710) rfl rfl rfl (hts _ q93) (hts _ q707) (by decide +kernel) ⟨Nat.le_of_ble_eq_true rfl, Nat.le_of_ble_eq_true rfl⟩, hts _ q709, (hZ.selP (by decide) (lw_all_tbl q235) q708 (lw_all_tbl q709) (lw_all_tbl q2183))⟩ hK hZ hA hP hD hS [0, 1] [] rfl rfl (by decide) (by decide) (by decide) 0 9 rfl rfl rfl hl.1 (Nat.le_of_ble_eq_true rfl) ⟨Nat.le_of_ble_eq_true rfl, Nat.le_of_ble_eq_true rfl⟩ rfl dJ2_setLength_15 (fun u9 H locs hw9 hP hD hS => ?_)
  have hP : va_P G.1 CL (SOW G sh va false ml sn ++ BAW G va cap yf) _ := hP
  have hD : va_D A (SOW G sh va false ml sn ++ BAW G va cap yf) := hD
  refine lv_aload_n hx hb dJ2_setLength_18 rfl (lv_at hl 0 rfl) ?_
  refine va_get (D := G.1) (ci := 9) (v := .int (nI sn)) (C := RJ3) (T := TJ3) (N := 4) hx hb hts in_J3 hown hK hP 0 rfl rfl 3 (by decide) (hts _ q256) (fun _ h9 => h9) rfl dJ2_setLength_19 ?_
  refine lv_iload_n hx hb dJ2_setLength_22 rfl (lv_at hl 1 rfl) ?_
  refine n_cmp_ge (tgt := 63) hx hb dJ2_setLength_23 (by decide) (by omega) (by omega) (fun c23 => ?_) (fun c23 => ?_)
  rotate_left
  · exact absurd c23 (by omega)
  refine lv_aload_n hx hb dJ2_setLength_63 rfl (lv_at hl 0 rfl) ?_
  refine va_get (D := G.1) (ci := 9) (v := .int (nI sn)) (C := RJ3) (T := TJ3) (N := 4) hx hb hts in_J3 hown hK hP 0 rfl rfl 3 (by decide) (hts _ q256) (fun _ h9 => h9) rfl dJ2_setLength_64 ?_
  refine lv_iload_n hx hb dJ2_setLength_67 rfl (lv_at hl 1 rfl) ?_
  refine n_cmp_le (tgt := 76) hx hb dJ2_setLength_68 (by decide) (by omega) (by omega) (fun c68 => ?_) (fun c68 => ?_)
  · skip
    refine lv_aload_n hx hb dJ2_setLength_76 rfl (lv_at hl 0 rfl) ?_
    refine lv_iload_n hx hb dJ2_setLength_77 rfl (lv_at hl 1 rfl) ?_
    refine va_put (D := G.1) (ci := 9) (v := .int (nI 0)) (ty := .int) (C := RJ3) (T := TJ3) (N := 4) hx hb hts in_J3 tyJ3 tyJ3_ok nmJ3 hown hK hP hD hS 0 rfl rfl 3 (by decide) (hts _ q256) (fun _ h9 => h9) rfl (by decide +kernel) rfl rfl (Nat.le_of_ble_eq_true rfl) dJ2_setLength_78 (fun H locs hP hD hS => ?_)
    have hP : va_P G.1 CL (SOW G sh va false ml 0 ++ BAW G va cap yf) _ := hP
    have hD : va_D A (SOW G sh va false ml 0 ++ BAW G va cap yf) := hD
    subst hQ
    exact ret_v hx hb hr hlk ml trivial hP hD hS dJ2_setLength_81
  · skip
    refine lv_aload_n hx hb dJ2_setLength_71 rfl (lv_at hl 0 rfl) ?_
    refine lv_iconst (v := nI 1) hx hb dJ2_setLength_72 (by decide) ?_
    refine va_put (D := G.1) (ci := 9) (v := .int (bI true)) (ty := .boolean) (C := RJ3) (T := TJ3) (N := 4) hx hb hts in_J3 tyJ3 tyJ3_ok nmJ3 hown hK hP hD hS 0 rfl rfl 2 (by decide) (hts _ q254) (fun _ h9 => h9) rfl (by decide +kernel) (bI_nar _) rfl (Nat.le_of_ble_eq_true rfl) dJ2_setLength_73 (fun H locs hP hD hS => ?_)
    have hP : va_P G.1 CL (SOW G sh va false true sn ++ BAW G va cap yf) _ := hP
    have hD : va_D A (SOW G sh va false true sn ++ BAW G va cap yf) := hD
    refine lv_aload_n hx hb dJ2_setLength_76 rfl (lv_at hl 0 rfl) ?_
    refine lv_iload_n hx hb dJ2_setLength_77 rfl (lv_at hl 1 rfl) ?_
    refine va_put (D := G.1) (ci := 9) (v := .int (nI 0)) (ty := .int) (C := RJ3) (T := TJ3) (N := 4) hx hb hts in_J3 tyJ3 tyJ3_ok nmJ3 hown hK hP hD hS 0 rfl rfl 3 (by decide) (hts _ q256) (fun _ h9 => h9) rfl (by decide +kernel) rfl rfl (Nat.le_of_ble_eq_true rfl) dJ2_setLength_78 (fun H locs hP hD hS => ?_)
    have hP : va_P G.1 CL (SOW G sh va false true 0 ++ BAW G va cap yf) _ := hP
    have hD : va_D A (SOW G sh va false true 0 ++ BAW G va cap yf) := hD
    subst hQ
    exact ret_v hx hb hr hlk true trivial hP hD hS dJ2_setLength_81
set_option maxHeartbeats 4000000 in
set_option maxRecDepth 100000 in
theorem m_J3_setLength__L (l : Launch) (G : GG) (sh : Nat) (va : Nat) (ml : Bool) (sn : Nat) (cap : Nat) (yf : Nat → Nat) (tx : Nat → Nat) (hR : SBR cap false sn yf tx) : MM l G yJ3_setLength cJ3_setLength 2 none ⟨2, 0, 0, 43⟩ [.ref sh, .int (nI 0)] (SOW G sh va false ml sn ++ BAW G va cap yf) (Qv_ G (fun (u : (Bool)) => True) (fun (u : (Bool)) => (SOW G sh va false u 0 ++ BAW G va cap yf))) := by
  refine MM.of (by decide) (Nat.le_of_ble_eq_true rfl) ?_
  intro p e s m args below meth cd A C hini hA hK hZ hP hD ls hl
  generalize hQ : MQ below ((Qv_ G (fun (u : (Bool)) => True) (fun (u : (Bool)) => (SOW G sh va false u 0 ++ BAW G va cap yf))) A) args s (⟨2, 0, 0, 43⟩ : Room).cells (⟨2, 0, 0, 43⟩ : Room).slots A = Q
  obtain ⟨hx, hb, hr, hts, hown, hlk, hml⟩ := C
  have hown : s.vm.findClass RJ3 = some m.cls := hown
  have hS : va_S A s.heap s.heap [] := va_S.rf
  have hl : lv_has ls 2 [(0, .ref sh), (1, .int (nI 0))] := hl
  refine lv_aload_n hx hb dJ3_setLength_0 rfl (lv_at hl 0 rfl) ?_
  refine lv_iload_n hx hb dJ3_setLength_1 rfl (lv_at hl 1 rfl) ?_
  refine callSUv (As := [.int (nI 0)]) (rest := []) (wc := (SOW G sh va false ml sn ++ BAW G va cap yf)) (wr := ([] : va_W)) ⟨hx, hb, hml, hown, hts⟩ (m_J2_setLength__L l G sh va ml sn cap yf tx (by first | assumption | omega)) (va_cwSU 1 hts (lw_SU q685 q2180 q265 q686 q93 q687) rfl rfl rfl (by decide +kernel) ⟨Nat.le_of_ble_eq_true rfl, Nat.le_of_ble_eq_true rfl⟩) hK hZ hA hP hD hS [0, 1] [] rfl rfl (by decide) (by decide) (by decide) 0 9 rfl rfl rfl hl.1 (Nat.le_of_ble_eq_true rfl) ⟨Nat.le_of_ble_eq_true rfl, Nat.le_of_ble_eq_true rfl⟩ rfl dJ3_setLength_2 (fun u9 H locs hw9 hP hD hS => ?_)
  obtain ⟨ml2_1, e9⟩ : ∃ z, z = u9 := ⟨_, rfl⟩
  subst e9
  have hP : va_P G.1 CL (SOW G sh va false ml2_1 0 ++ BAW G va cap yf) _ := hP
  have hD : va_D A (SOW G sh va false ml2_1 0 ++ BAW G va cap yf) := hD
  subst hQ
  exact ret_v hx hb hr hlk ml2_1 trivial hP hD hS dJ3_setLength_5
set_option maxHeartbeats 4000000 in
set_option maxRecDepth 100000 in
theorem m_J3_append_3__U (l : Launch) (G : GG) (sh : Nat) (va : Nat) (ml : Bool) (sn : Nat) (cap : Nat) (yf : Nat → Nat) (tx : Nat → Nat) (x : Nat) (hR : SBR cap true sn yf tx) (hn : sn < 60) (hx1 : x < 65536) : MM l G yJ3_append_3 cJ3_append_3 2 (some (.object "java/lang/StringBuilder")) ⟨7, 2, 490, 158⟩ [.ref sh, .int (nI x)] (SOW G sh va true ml sn ++ BAW G va cap yf) (Qr_ G (fun (r : Nat) (u : (Nat) × (Nat) × (Bool) × (Nat → Nat)) => (r = sh) ∧ (SBR u.2.1 u.2.2.1 (sn + 1) u.2.2.2 (va_up tx sn x))) (fun (r : Nat) (u : (Nat) × (Nat) × (Bool) × (Nat → Nat)) => (SOW G sh u.1 u.2.2.1 ml (sn + 1) ++ BAW G u.1 u.2.1 u.2.2.2))) := by
  refine MM.of (by decide) (Nat.le_of_ble_eq_true rfl) ?_
  intro p e s m args below meth cd A C hini hA hK hZ hP hD ls hl
  generalize hQ : MQ below ((Qr_ G (fun (r : Nat) (u : (Nat) × (Nat) × (Bool) × (Nat → Nat)) => (r = sh) ∧ (SBR u.2.1 u.2.2.1 (sn + 1) u.2.2.2 (va_up tx sn x))) (fun (r : Nat) (u : (Nat) × (Nat) × (Bool) × (Nat → Nat)) => (SOW G sh u.1 u.2.2.1 ml (sn + 1) ++ BAW G u.1 u.2.1 u.2.2.2))) A) args s (⟨7, 2, 490, 158⟩ : Room).cells (⟨7, 2, 490, 158⟩ : Room).slots A = Q
  obtain ⟨hx, hb, hr, hts, hown, hlk, hml⟩ := C
  have hown : s.vm.findClass RJ3 = some m.cls := hown
  have hS : va_S A s.heap s.heap [] := va_S.rf
  have hl : lv_has ls 2 [(0, .ref sh), (1, .int (nI x))] := hl
  refine lv_aload_n hx hb dJ3_append_3_0 rfl (lv_at hl 0 rfl) ?_
  refine lv_iload_n hx hb dJ3_append_3_1 rfl (lv_at hl 1 rfl) ?_
  refine callSUr (As := [.int (nI x)]) (rest := []) (wc := (SOW G sh va true ml sn ++ BAW G va cap yf)) (wr := ([] : va_W)) ⟨hx, hb, hml, hown, hts⟩ (m_J2_append_3__U l G sh va ml sn cap yf tx x (by first | assumption | omega) (by first | assumption | omega) (by first | assumption | omega)) (va_cwSU 1 hts (lw_SU q974 q2189 q265 q975 q93 q976) rfl rfl rfl (by decide +kernel) ⟨Nat.le_of_ble_eq_true rfl, Nat.le_of_ble_eq_true rfl⟩) hK hZ hA hP hD hS [0, 1] [] rfl rfl (by decide) (by decide) (by decide) 0 9 rfl rfl rfl hl.1 (Nat.le_of_ble_eq_true rfl) ⟨Nat.le_of_ble_eq_true rfl, Nat.le_of_ble_eq_true rfl⟩ rfl dJ3_append_3_2 (fun r9 u9 H locs hw9 hP hD hS => ?_)
  refine W.widen (k := 2) (n := 490) (Nat.le_refl _) (Nat.le_refl _) ?_
  obtain ⟨v2_1, cap2_1, cd2_1, g_1⟩ := u9
  obtain ⟨hr9, hw2⟩ := hw9
  subst r9
  have hw2 : SBR cap2_1 cd2_1 (sn + 1) g_1 (va_up tx sn x) := hw2
  have hP : va_P G.1 CL (SOW G sh v2_1 cd2_1 ml (sn + 1) ++ BAW G v2_1 cap2_1 g_1) _ := hP
  have hD : va_D A (SOW G sh v2_1 cd2_1 ml (sn + 1) ++ BAW G v2_1 cap2_1 g_1) := hD
  refine lv_pop hx hb dJ3_append_3_5 rfl ?_
  refine lv_aload_n hx hb dJ3_append_3_6 rfl (lv_at hl 0 rfl) ?_
  subst hQ
  exact ret_r hx hb hr (Or.inl ⟨_, rfl⟩) hlk (⟨v2_1, cap2_1, cd2_1, g_1⟩) ⟨rfl, hw2⟩ hP hD hS dJ3_append_3_7
set_option maxHeartbeats 4000000 in
set_option maxRecDepth 100000 in
theorem m_J2_charAt__U (l : Launch) (G : GG) (sh : Nat) (va : Nat) (ml : Bool) (sn : Nat) (cap : Nat) (yf : Nat → Nat) (tx : Nat → Nat) (i : Nat) (hR : SBR cap true sn yf tx) (hi : i < sn) : MM l G yJ2_charAt cJ2_charAt 5 (some .char) ⟨2, 0, 0, 43⟩ [.ref sh, .int (nI i)] (SOW G sh va true ml sn ++ BAW G va cap yf) (Qi_ G (fun (r : Int32) (_ : Unit) => r = nI (tx i)) (fun (_ : Unit) => (SOW G sh va true ml sn ++ BAW G va cap yf))) := by
  refine MM.of (by decide) (Nat.le_of_ble_eq_true rfl) ?_
  intro p e s m args below meth cd A C hini hA hK hZ hP hD ls hl
  generalize hQ : MQ below ((Qi_ G (fun (r : Int32) (_ : Unit) => r = nI (tx i)) (fun (_ : Unit) => (SOW G sh va true ml sn ++ BAW G va cap yf))) A) args s (⟨2, 0, 0, 43⟩ : Room).cells (⟨2, 0, 0, 43⟩ : Room).slots A = Q
  obtain ⟨hx, hb, hr, hts, hown, hlk, hml⟩ := C
  have hown : s.vm.findClass RJ2 = some m.cls := hown
  have hS : va_S A s.heap s.heap [] := va_S.rf
  have hl : lv_has ls 5 [(0, .ref sh), (1, .int (nI i))] := hl
  obtain ⟨r2, r3, r5, r4⟩ := hR.2.2 rfl
  refine lv_aload_n hx hb dJ2_charAt_0 rfl (lv_at hl 0 rfl) ?_
  refine va_get (D := G.1) (ci := 9) (v := .int (bI true)) (C := RJ3) (T := TJ3) (N := 4) hx hb hts in_J3 hown hK hP 0 rfl rfl 1 (by decide) (hts _ q253) (fun _ h9 => h9) rfl dJ2_charAt_1 ?_
  refine lv_istore_n (lv' := [(2, .int (bI true)), (0, .ref sh), (1, .int (nI i))]) hx hb dJ2_charAt_4 rfl hl (by decide) rfl (fun ls hl => ?_)
  refine lv_aload_n hx hb dJ2_charAt_5 rfl (lv_at hl 1 rfl) ?_
  refine va_get (D := G.1) (ci := 9) (v := .ref va) (C := RJ3) (T := TJ3) (N := 4) hx hb hts in_J3 hown hK hP 0 rfl rfl 0 (by decide) (hts _ q252) (fun _ h9 => h9) rfl dJ2_charAt_6 ?_
  refine lv_astore_n (lv' := [(3, .ref va), (2, .int (bI true)), (0, .ref sh), (1, .int (nI i))]) hx hb dJ2_charAt_9 rfl hl (by decide) rfl (fun ls hl => ?_)
  refine lv_aload_n hx hb dJ2_charAt_10 rfl (lv_at hl 2 rfl) ?_
  refine va_get (D := G.1) (ci := 9) (v := .int (nI sn)) (C := RJ3) (T := TJ3) (N := 4) hx hb hts in_J3 hown hK hP 0 rfl rfl 3 (by decide) (hts _ q256) (fun _ h9 => h9) rfl dJ2_charAt_11 ?_
  refine lv_aload_n hx hb dJ2_charAt_14 rfl (lv_at hl 0 rfl) ?_
  refine va_alen (v := nI cap) hx hb hK hP 1 1 rfl rfl rfl dJ2_charAt_15 ?_
  refine lv_iload_n hx hb dJ2_charAt_16 rfl (lv_at hl 1 rfl) ?_
  refine n_ishr 1 hx hb rfl (by decide) (by omega) dJ2_charAt_17 ?_
  refine eq_i (y := nI (cap / 2)) rfl ?_
  refine n_mmin hx hb (by rw [hml]; exact hl.1.symm) hown (hts _ q1522) (hts _ q422) (hts _ q103) (hts _ q423) (Nat.le_of_ble_eq_true rfl) (Nat.le_of_ble_eq_true rfl) (Nat.le_of_ble_eq_true rfl) (Nat.le_of_ble_eq_true rfl) (by omega) (by omega) dJ2_charAt_18 ?_
  refine lv_istore (lv' := [(4, .int (nI (min sn (cap / 2)))), (3, .ref va), (2, .int (bI true)), (0, .ref sh), (1, .int (nI i))]) hx hb dJ2_charAt_21 hl (by decide) rfl (fun ls hl => ?_)
  refine lv_iload_n hx hb dJ2_charAt_23 rfl (lv_at hl 4 rfl) ?_
  refine lv_iload hx hb dJ2_charAt_24 (lv_at hl 0 rfl) ?_
  refine callSv (As := [.int (nI i), .int (nI (min sn (cap / 2)))]) (rest := []) (wc := ([] : va_W)) (wr := (SOW G sh va true ml sn ++ BAW G va cap yf)) ⟨hx, hb, hml, hown, hts⟩ (m_J4_checkIndex l G i (min sn (cap / 2)) (by first | assumption | omega) (by first | assumption | omega)) (va_cwS 2 hts (lw_S q1523 q987 q95 q988) rfl rfl rfl (by decide +kernel) ⟨Nat.le_of_ble_eq_true rfl, Nat.le_of_ble_eq_true rfl⟩) hK hZ hA hP hD hS [] [0, 1] rfl rfl (by decide) (by decide) (by decide) rfl hl.1 (Nat.le_of_ble_eq_true rfl) ⟨Nat.le_of_ble_eq_true rfl, Nat.le_of_ble_eq_true rfl⟩ rfl dJ2_charAt_26 (fun u9 H locs hw9 hP hD hS => ?_)
  have hP : va_P G.1 CL (SOW G sh va true ml sn ++ BAW G va cap yf) _ := hP
  have hD : va_D A (SOW G sh va true ml sn ++ BAW G va cap yf) := hD
  refine lv_iload_n hx hb dJ2_charAt_29 rfl (lv_at hl 2 rfl) ?_
  refine b_if_ne (tgt := 42) hx hb dJ2_charAt_30 (by decide) (fun c30 => ?_) (fun c30 => ?_)
  rotate_left
  · exact absurd c30 (by decide)
  refine lv_aload_n hx hb dJ2_charAt_42 rfl (lv_at hl 1 rfl) ?_
  refine lv_iload_n hx hb dJ2_charAt_43 rfl (lv_at hl 4 rfl) ?_
  refine callSi (As := [.ref va, .int (nI i)]) (rest := []) (wc := (BAW G va cap yf)) (wr := (SOW G sh va true ml sn)) ⟨hx, hb, hml, hown, hts⟩ (m_J5_getChar l G va cap yf i (by first | assumption | omega) (by first | assumption | omega)) (va_cwS 2 hts (lw_S q1524 q899 q96 q900) rfl rfl rfl (by decide +kernel) ⟨Nat.le_of_ble_eq_true rfl, Nat.le_of_ble_eq_true rfl⟩) hK hZ hA hP hD hS [1] [0] rfl rfl (by decide) (by decide) (by decide) rfl hl.1 (Nat.le_of_ble_eq_true rfl) ⟨Nat.le_of_ble_eq_true rfl, Nat.le_of_ble_eq_true rfl⟩ rfl dJ2_charAt_44 (fun r9 u9 H locs hw9 hP hD hS => ?_)
  subst hw9
  have hP : va_P G.1 CL (SOW G sh va true ml sn ++ BAW G va cap yf) _ := hP
  have hD : va_D A (SOW G sh va true ml sn ++ BAW G va cap yf) := hD
  subst hQ
  exact ret_i hx hb hr hlk () (congrArg nI (r4 i hi)) hP hD hS (pk_charN (by omega)).1 dJ2_charAt_47
set_option maxHeartbeats 4000000 in
set_option maxRecDepth 100000 in
theorem m_J3_charAt__U (l : Launch) (G : GG) (sh : Nat) (va : Nat) (ml : Bool) (sn : Nat) (cap : Nat) (yf : Nat → Nat) (tx : Nat → Nat) (i : Nat) (hR : SBR cap true sn yf tx) (hi : i < sn) (htx : tx i < 65536) : MM l G yJ3_charAt cJ3_charAt 2 (some .char) ⟨3, 0, 0, 67⟩ [.ref sh, .int (nI i)] (SOW G sh va true ml sn ++ BAW G va cap yf) (Qi_ G (fun (r : Int32) (_ : Unit) => r = nI (tx i)) (fun (_ : Unit) => (SOW G sh va true ml sn ++ BAW G va cap yf))) := by
  refine MM.of (by decide) (Nat.le_of_ble_eq_true rfl) ?_
  intro p e s m args below meth cd A C hini hA hK hZ hP hD ls hl
  generalize hQ : MQ below ((Qi_ G (fun (r : Int32) (_ : Unit) => r = nI (tx i)) (fun (_ : Unit) => (SOW G sh va true ml sn ++ BAW G va cap yf))) A) args s (⟨3, 0, 0, 67⟩ : Room).cells (⟨3, 0, 0, 67⟩ : Room).slots A = Q
  obtain ⟨hx, hb, hr, hts, hown, hlk, hml⟩ := C
  have hown : s.vm.findClass RJ3 = some m.cls := hown
  have hS : va_S A s.heap s.heap [] := va_S.rf
  have hl : lv_has ls 2 [(0, .ref sh), (1, .int (nI i))] := hl
  refine lv_aload_n hx hb dJ3_charAt_0 rfl (lv_at hl 0 rfl) ?_
  refine lv_iload_n hx hb dJ3_charAt_1 rfl (lv_at hl 1 rfl) ?_
  refine callSUi (As := [.int (nI i)]) (rest := []) (wc := (SOW G sh va true ml sn ++ BAW G va cap yf)) (wr := ([] : va_W)) ⟨hx, hb, hml, hown, hts⟩ (m_J2_charAt__U l G sh va ml sn cap yf tx i (by first | assumption | omega) (by first | assumption | omega)) (va_cwSU 1 hts (lw_SU q1519 q2191 q265 q1520 q93 q1521) rfl rfl rfl (by decide +kernel) ⟨Nat.le_of_ble_eq_true rfl, Nat.le_of_ble_eq_true rfl⟩) hK hZ hA hP hD hS [0, 1] [] rfl rfl (by decide) (by decide) (by decide) 0 9 rfl rfl rfl hl.1 (Nat.le_of_ble_eq_true rfl) ⟨Nat.le_of_ble_eq_true rfl, Nat.le_of_ble_eq_true rfl⟩ rfl dJ3_charAt_2 (fun r9 u9 H locs hw9 hP hD hS => ?_)
  subst hw9
  have hP : va_P G.1 CL (SOW G sh va true ml sn ++ BAW G va cap yf) _ := hP
  have hD : va_D A (SOW G sh va true ml sn ++ BAW G va cap yf) := hD
  subst hQ
  exact ret_i hx hb hr hlk () rfl hP hD hS (pk_charN (by omega)).1 dJ3_charAt_5
set_option maxHeartbeats 4000000 in
set_option maxRecDepth 100000 in
theorem m_J2_setLength__U (l : Launch) (G : GG) (sh : Nat) (va : Nat) (ml : Bool) (sn : Nat) (cap : Nat) (yf : Nat → Nat) (tx : Nat → Nat) (hR : SBR cap true sn yf tx) : MM l G yJ2_setLength cJ2_setLength 2 none ⟨1, 0, 0, 22⟩ [.ref sh, .int (nI 0)] (SOW G sh va true ml sn ++ BAW G va cap yf) (Qv_ G (fun (u : (Bool)) => True) (fun (u : (Bool)) => (SOW G sh va true u 0 ++ BAW G va cap yf))) := by
  refine MM.of (by decide) (Nat.le_of_ble_eq_true rfl) ?_
  intro p e s m args below meth cd A C hini hA hK hZ hP hD ls hl
  generalize hQ : MQ below ((Qv_ G (fun (u : (Bool)) => True) (fun (u : (Bool)) => (SOW G sh va true u 0 ++ BAW G va cap yf))) A) args s (⟨1, 0, 0, 22⟩ : Room).cells (⟨1, 0, 0, 22⟩ : Room).slots A = Q
  obtain ⟨hx, hb, hr, hts, hown, hlk, hml⟩ := C
  have hown : s.vm.findClass RJ2 = some m.cls := hown
  have hS : va_S A s.heap s.heap [] := va_S.rf
  have hl : lv_has ls 2 [(0, .ref sh), (1, .int (nI 0))] := hl
  have r1 := hR.1
  obtain ⟨r2, r3, r5, r4⟩ := hR.2.2 rfl
  refine lv_iload_n hx hb dJ2_setLength_0 rfl (lv_at hl 1 rfl) ?_
  refine n_if_ge (tgt := 13) hx hb dJ2_setLength_1 (by decide) (by omega) ?_
  refine lv_aload_n hx hb dJ2_setLength_13 rfl (lv_at hl 0 rfl) ?_
  refine lv_iload_n hx hb dJ2_setLength_14 rfl (lv_at hl 1 rfl) ?_
  refine callVv (As := [.int (nI 0)]) (rest := []) (wc := (SOW G sh va true ml sn ++ BAW G va cap yf)) (wr := ([] : va_W)) ⟨hx, hb, hml, hown, hts⟩ (m_J2_ensureCapacityInternal__Uk l G sh va ml sn cap yf 0 (by first | assumption | omega) (by first | assumption | omega)) ⟨callB_of 1 hts (lw_meth q710) rfl rfl rfl (hts _ q93) (hts _ q707) (by decide +kernel) ⟨Nat.le_of_ble_eq_true rfl, Nat.le_of_ble_eq_true rfl⟩, hts _ q709, (hZ.selP (by decide) (lw_all_tbl q235) q708 (lw_all_tbl q709) (lw_all_tbl q2183))⟩ hK hZ hA hP hD hS [0, 1] [] rfl rfl (by decide) (by decide) (by decide) 0 9 rfl rfl rfl hl.1 (Nat.le_of_ble_eq_true rfl) ⟨Nat.le_of_ble_eq_true rfl, Nat.le_of_ble_eq_true rfl⟩ rfl dJ2_setLength_15 (fun u9 H locs hw9 hP hD hS => ?_)
  have hP : va_P G.1 CL (SOW G sh va true ml sn ++ BAW G va cap yf) _ := hP
  have hD : va_D A (SOW G sh va true ml sn ++ BAW G va cap yf) := hD
  refine lv_aload_n hx hb dJ2_setLength_18 rfl (lv_at hl 0 rfl) ?_
  refine va_get (D := G.1) (ci := 9) (v := .int (nI sn)) (C := RJ3) (T := TJ3) (N := 4) hx hb hts in_J3 hown hK hP 0 rfl rfl 3 (by decide) (hts _ q256) (fun _ h9 => h9) rfl dJ2_setLength_19 ?_
  refine lv_iload_n hx hb dJ2_setLength_22 rfl (lv_at hl 1 rfl) ?_
  refine n_cmp_ge (tgt := 63) hx hb dJ2_setLength_23 (by decide) (by omega) (by omega) (fun c23 => ?_) (fun c23 => ?_)
  rotate_left
  · exact absurd c23 (by omega)
  refine lv_aload_n hx hb dJ2_setLength_63 rfl (lv_at hl 0 rfl) ?_
  refine va_get (D := G.1) (ci := 9) (v := .int (nI sn)) (C := RJ3) (T := TJ3) (N := 4) hx hb hts in_J3 hown hK hP 0 rfl rfl 3 (by decide) (hts _ q256) (fun _ h9 => h9) rfl dJ2_setLength_64 ?_
  refine lv_iload_n hx hb dJ2_setLength_67 rfl (lv_at hl 1 rfl) ?_
  refine n_cmp_le (tgt := 76) hx hb dJ2_setLength_68 (by decide) (by omega) (by omega) (fun c68 => ?_) (fun c68 => ?_)
  · skip
    refine lv_aload_n hx hb dJ2_setLength_76 rfl (lv_at hl 0 rfl) ?_
    refine lv_iload_n hx hb dJ2_setLength_77 rfl (lv_at hl 1 rfl) ?_
    refine va_put (D := G.1) (ci := 9) (v := .int (nI 0)) (ty := .int) (C := RJ3) (T := TJ3) (N := 4) hx hb hts in_J3 tyJ3 tyJ3_ok nmJ3 hown hK hP hD hS 0 rfl rfl 3 (by decide) (hts _ q256) (fun _ h9 => h9) rfl (by decide +kernel) rfl rfl (Nat.le_of_ble_eq_true rfl) dJ2_setLength_78 (fun H locs hP hD hS => ?_)
    have hP : va_P G.1 CL (SOW G sh va true ml 0 ++ BAW G va cap yf) _ := hP
    have hD : va_D A (SOW G sh va true ml 0 ++ BAW G va cap yf) := hD
    subst hQ
    exact ret_v hx hb hr hlk ml trivial hP hD hS dJ2_setLength_81
  · skip
    refine lv_aload_n hx hb dJ2_setLength_71 rfl (lv_at hl 0 rfl) ?_
    refine lv_iconst (v := nI 1) hx hb dJ2_setLength_72 (by decide) ?_
    refine va_put (D := G.1) (ci := 9) (v := .int (bI true)) (ty := .boolean) (C := RJ3) (T := TJ3) (N := 4) hx hb hts in_J3 tyJ3 tyJ3_ok nmJ3 hown hK hP hD hS 0 rfl rfl 2 (by decide) (hts _ q254) (fun _ h9 => h9) rfl (by decide +kernel) (bI_nar _) rfl (Nat.le_of_ble_eq_true rfl) dJ2_setLength_73 (fun H locs hP hD hS => ?_)
    have hP : va_P G.1 CL (SOW G sh va true true sn ++ BAW G va cap yf) _ := hP
    have hD : va_D A (SOW G sh va true true sn ++ BAW G va cap yf) := hD
    refine lv_aload_n hx hb dJ2_setLength_76 rfl (lv_at hl 0 rfl) ?_
    refine lv_iload_n hx hb dJ2_setLength_77 rfl (lv_at hl 1 rfl) ?_
    refine va_put (D := G.1) (ci := 9) (v := .int (nI 0)) (ty := .int) (C := RJ3) (T := TJ3) (N := 4) hx hb hts in_J3 tyJ3 tyJ3_ok nmJ3 hown hK hP hD hS 0 rfl rfl 3 (by decide) (hts _ q256) (fun _ h9 => h9) rfl (by decide +kernel) rfl rfl (Nat.le_of_ble_eq_true rfl) dJ2_setLength_78 (fun H locs hP hD hS => ?_)
    have hP : va_P G.1 CL (SOW G sh va true true 0 ++ BAW G va cap yf) _ := hP
    have hD : va_D A (SOW G sh va true true 0 ++ BAW G va cap yf) := hD
    subst hQ
    exact ret_v hx hb hr hlk true trivial hP hD hS dJ2_setLength_81
set_option maxHeartbeats 4000000 in
set_option maxRecDepth 100000 in
theorem m_J3_setLength__U (l : Launch) (G : GG) (sh : Nat) (va : Nat) (ml : Bool) (sn : Nat) (cap : Nat) (yf : Nat → Nat) (tx : Nat → Nat) (hR : SBR cap true sn yf tx) : MM l G yJ3_setLength cJ3_setLength 2 none ⟨2, 0, 0, 43⟩ [.ref sh, .int (nI 0)] (SOW G sh va true ml sn ++ BAW G va cap yf) (Qv_ G (fun (u : (Bool)) => True) (fun (u : (Bool)) => (SOW G sh va true u 0 ++ BAW G va cap yf))) := by
  refine MM.of (by decide) (Nat.le_of_ble_eq_true rfl) ?_
  intro p e s m args below meth cd A C hini hA hK hZ hP hD ls hl
  generalize hQ : MQ below ((Qv_ G (fun (u : (Bool)) => True) (fun (u : (Bool)) => (SOW G sh va true u 0 ++ BAW G va cap yf))) A) args s (⟨2, 0, 0, 43⟩ : Room).cells (⟨2, 0, 0, 43⟩ : Room).slots A = Q
  obtain ⟨hx, hb, hr, hts, hown, hlk, hml⟩ := C
  have hown : s.vm.findClass RJ3 = some m.cls := hown
  have hS : va_S A s.heap s.heap [] := va_S.rf
  have hl : lv_has ls 2 [(0, .ref sh), (1, .int (nI 0))] := hl
  refine lv_aload_n hx hb dJ3_setLength_0 rfl (lv_at hl 0 rfl) ?_
  refine lv_iload_n hx hb dJ3_setLength_1 rfl (lv_at hl 1 rfl) ?_
  refine callSUv (As := [.int (nI 0)]) (rest := []) (wc := (SOW G sh va true ml sn ++ BAW G va cap yf)) (wr := ([] : va_W)) ⟨hx, hb, hml, hown, hts⟩ (m_J2_setLength__U l G sh va ml sn cap yf tx (by first | assumption | omega)) (va_cwSU 1 hts (lw_SU q685 q2180 q265 q686 q93 q687) rfl rfl rfl (by decide +kernel) ⟨Nat.le_of_ble_eq_true rfl, Nat.le_of_ble_eq_true rfl⟩) hK hZ hA hP hD hS [0, 1] [] rfl rfl (by decide) (by decide) (by decide) 0 9 rfl rfl rfl hl.1 (Nat.le_of_ble_eq_true rfl) ⟨Nat.le_of_ble_eq_true rfl, Nat.le_of_ble_eq_true rfl⟩ rfl dJ3_setLength_2 (fun u9 H locs hw9 hP hD hS => ?_)
  obtain ⟨ml2_1, e9⟩ : ∃ z, z = u9 := ⟨_, rfl⟩
  subst e9
  have hP : va_P G.1 CL (SOW G sh va true ml2_1 0 ++ BAW G va cap yf) _ := hP
  have hD : va_D A (SOW G sh va true ml2_1 0 ++ BAW G va cap yf) := hD
  subst hQ
  exact ret_v hx hb hr hlk ml2_1 trivial hP hD hS dJ3_setLength_5
set_option maxHeartbeats 4000000 in
set_option maxRecDepth 100000 in
theorem m_J2_length (l : Launch) (G : GG) (sh : Nat) (va : Nat) (sk : Bool) (ml : Bool) (sn : Nat)  : MM l G yJ2_length cJ2_length 1 (some .int) ⟨0, 0, 0, 0⟩ [.ref sh] (SOW G sh va sk ml sn) (Qi_ G (fun (r : Int32) (_ : Unit) => r = nI sn) (fun (_ : Unit) => (SOW G sh va sk ml sn))) := by
  refine MM.of (by decide) (Nat.le_of_ble_eq_true rfl) ?_
  intro p e s m args below meth cd A C hini hA hK hZ hP hD ls hl
  generalize hQ : MQ below ((Qi_ G (fun (r : Int32) (_ : Unit) => r = nI sn) (fun (_ : Unit) => (SOW G sh va sk ml sn))) A) args s (⟨0, 0, 0, 0⟩ : Room).cells (⟨0, 0, 0, 0⟩ : Room).slots A = Q
  obtain ⟨hx, hb, hr, hts, hown, hlk, hml⟩ := C
  have hown : s.vm.findClass RJ2 = some m.cls := hown
  have hS : va_S A s.heap s.heap [] := va_S.rf
  have hl : lv_has ls 1 [(0, .ref sh)] := hl
  refine lv_aload_n hx hb dJ2_length_0 rfl (lv_at hl 0 rfl) ?_
  refine va_get (D := G.1) (ci := 9) (v := .int (nI sn)) (C := RJ3) (T := TJ3) (N := 4) hx hb hts in_J3 hown hK hP 0 rfl rfl 3 (by decide) (hts _ q256) (fun _ h9 => h9) rfl dJ2_length_1 ?_
  subst hQ
  exact ret_i hx hb hr hlk () rfl hP hD hS rfl dJ2_length_4
set_option maxHeartbeats 4000000 in
set_option maxRecDepth 100000 in
theorem m_J3_length__o (l : Launch) (G : GG) (sh : Nat) (va : Nat) (sk : Bool) (ml : Bool) (sn : Nat) (cap : Nat) (yf : Nat → Nat)  : MM l G yJ3_length cJ3_length 1 (some .int) ⟨1, 0, 0, 20⟩ [.ref sh] (SOW G sh va sk ml sn ++ BAW G va cap yf) (Qi_ G (fun (r : Int32) (_ : Unit) => r = nI sn) (fun (_ : Unit) => (SOW G sh va sk ml sn ++ BAW G va cap yf))) := by
  refine MM.of (by decide) (Nat.le_of_ble_eq_true rfl) ?_
  intro p e s m args below meth cd A C hini hA hK hZ hP hD ls hl
  generalize hQ : MQ below ((Qi_ G (fun (r : Int32) (_ : Unit) => r = nI sn) (fun (_ : Unit) => (SOW G sh va sk ml sn ++ BAW G va cap yf))) A) args s (⟨1, 0, 0, 20⟩ : Room).cells (⟨1, 0, 0, 20⟩ : Room).slots A = Q
  obtain ⟨hx, hb, hr, hts, hown, hlk, hml⟩ := C
  have hown : s.vm.findClass RJ3 = some m.cls := hown
  have hS : va_S A s.heap s.heap [] := va_S.rf
  have hl : lv_has ls 1 [(0, .ref sh)] := hl
  refine lv_aload_n hx hb dJ3_length_0 rfl (lv_at hl 0 rfl) ?_
  refine callSUi (As := []) (rest := []) (wc := (SOW G sh va sk ml sn)) (wr := (BAW G va cap yf)) ⟨hx, hb, hml, hown, hts⟩ (m_J2_length l G sh va sk ml sn ) (va_cwSU 0 hts (lw_SU q859 q855 q265 q854 q93 q860) rfl rfl rfl (by decide +kernel) ⟨Nat.le_of_ble_eq_true rfl, Nat.le_of_ble_eq_true rfl⟩) hK hZ hA hP hD hS [0] [1] rfl rfl (by decide) (by decide) (by decide) 0 9 rfl rfl rfl hl.1 (Nat.le_of_ble_eq_true rfl) ⟨Nat.le_of_ble_eq_true rfl, Nat.le_of_ble_eq_true rfl⟩ rfl dJ3_length_1 (fun r9 u9 H locs hw9 hP hD hS => ?_)
  subst hw9
  obtain ⟨hP, hD⟩ := re_PD (w := (SOW G sh va sk ml sn ++ BAW G va cap yf)) hP hD [1, 0] (by decide) rfl
  subst hQ
  exact ret_i hx hb hr hlk () rfl hP hD hS rfl dJ3_length_4
set_option maxHeartbeats 4000000 in
set_option maxRecDepth 100000 in
theorem m_J2_init (l : Launch) (G : GG) (sh : Nat) (vv : Value) (sk : Bool) (ml : Bool) (sn : Nat)  : MM l G yJ2_init cJ2_init 2 none ⟨1, 1, 16, 12⟩ [.ref sh, .int (nI 16)] (SIW G sh vv sk ml sn) (Qv_ G (fun (u : (Nat)) => True) (fun (u : (Nat)) => (SIW G sh (.ref u) false ml sn ++ BAW G u 16 (fun _ => 0)))) := by
  refine MM.of (by decide) (Nat.le_of_ble_eq_true rfl) ?_
  intro p e s m args below meth cd A C hini hA hK hZ hP hD ls hl
  generalize hQ : MQ below ((Qv_ G (fun (u : (Nat)) => True) (fun (u : (Nat)) => (SIW G sh (.ref u) false ml sn ++ BAW G u 16 (fun _ => 0)))) A) args s (⟨1, 1, 16, 12⟩ : Room).cells (⟨1, 1, 16, 12⟩ : Room).slots A = Q
  obtain ⟨hx, hb, hr, hts, hown, hlk, hml⟩ := C
  have hown : s.vm.findClass RJ2 = some m.cls := hown
  have hS : va_S A s.heap s.heap [] := va_S.rf
  have hl : lv_has ls 2 [(0, .ref sh), (1, .int (nI 16))] := hl
  refine lv_aload_n hx hb dJ2_init_0 rfl (lv_at hl 0 rfl) ?_
  refine W.objInit hx hb hown (hts _ q242) (hts _ q129) (hts _ q130) rfl (by rw [hml]; exact hl.1) rfl dJ2_init_1 (Nat.le_of_ble_eq_true rfl) (Nat.le_of_ble_eq_true rfl) ?_
  refine W.eq (g2 := F0 m 4 ls []) rfl ?_
  refine get_s (G := G) hx hb hZ.zCS hS hown (hts _ q243) dJ2_init_4 ?_
  refine n_if_eq (tgt := 25) hx hb dJ2_init_7 (by decide) (by decide) (fun c7 => ?_) (fun c7 => ?_)
  · exact absurd c7 (by decide)
  refine lv_aload_n hx hb dJ2_init_10 rfl (lv_at hl 0 rfl) ?_
  refine lv_iload_n hx hb dJ2_init_11 rfl (lv_at hl 1 rfl) ?_
  refine nw_byte hx hb (hts _ q266) hK hP hD hS hA 1 rfl (n := 16) (by omega) (by show 0 + 1 ≤ 1; omega) (by show 0 + 16 ≤ 16; omega) dJ2_init_12 (fun q1 H hP hD hS => ?_)
  refine W.widen (k := 1) (n := 16) (by show 0 + 1 ≤ 1; omega) (by show 0 + 16 ≤ 16; omega) ?_
  rw [bB_0] at hP hD
  have hP : va_P G.1 CL (SIW G sh vv sk ml sn ++ BAW G q1 16 (fun _ => 0)) _ := hP
  have hD : va_D A (SIW G sh vv sk ml sn ++ BAW G q1 16 (fun _ => 0)) := hD
  refine va_put (D := G.1) (ci := 9) (v := (.ref q1)) (C := RJ3) (T := TJ3) (N := 4) hx hb hts in_J3 tyJ3 tyJ3_ok nmJ3 hown hK hP hD hS 0 rfl rfl 0 (by decide) (hts _ q252) (fun _ h9 => h9) rfl (tyJ3_ok 0 (by decide)) rfl rfl (Nat.le_of_ble_eq_true rfl) dJ2_init_14 (fun H locs hP hD hS => ?_)
  have hP : va_P G.1 CL (SIW G sh (.ref q1) sk ml sn ++ BAW G q1 16 (fun _ => 0)) _ := hP
  have hD : va_D A (SIW G sh (.ref q1) sk ml sn ++ BAW G q1 16 (fun _ => 0)) := hD
  refine lv_aload_n hx hb dJ2_init_17 rfl (lv_at hl 0 rfl) ?_
  refine lv_iconst (v := nI 0) hx hb dJ2_init_18 (by decide) ?_
  refine va_put (D := G.1) (ci := 9) (v := .int (bI false)) (ty := .byte) (C := RJ3) (T := TJ3) (N := 4) hx hb hts in_J3 tyJ3 tyJ3_ok nmJ3 hown hK hP hD hS 0 rfl rfl 1 (by decide) (hts _ q253) (fun _ h9 => h9) rfl (by decide +kernel) (bI_narB _) rfl (Nat.le_of_ble_eq_true rfl) dJ2_init_19 (fun H locs hP hD hS => ?_)
  have hP : va_P G.1 CL (SIW G sh (.ref q1) false ml sn ++ BAW G q1 16 (fun _ => 0)) _ := hP
  have hD : va_D A (SIW G sh (.ref q1) false ml sn ++ BAW G q1 16 (fun _ => 0)) := hD
  refine lv_goto (tgt := 38) hx hb dJ2_init_22 (by decide) ?_
  subst hQ
  exact ret_v hx hb hr hlk q1 trivial hP hD hS dJ2_init_38
set_option maxHeartbeats 4000000 in
set_option maxRecDepth 100000 in
theorem m_J3_init (l : Launch) (G : GG) (sh : Nat) (vv : Value) (sk : Bool) (ml : Bool) (sn : Nat)  : MM l G yJ3_init cJ3_init 1 none ⟨2, 1, 16, 33⟩ [.ref sh] (SIW G sh vv sk ml sn) (Qv_ G (fun (u : (Nat)) => True) (fun (u : (Nat)) => (SIW G sh (.ref u) false ml sn ++ BAW G u 16 (fun _ => 0)))) := by
  refine MM.of (by decide) (Nat.le_of_ble_eq_true rfl) ?_
  intro p e s m args below meth cd A C hini hA hK hZ hP hD ls hl
  generalize hQ : MQ below ((Qv_ G (fun (u : (Nat)) => True) (fun (u : (Nat)) => (SIW G sh (.ref u) false ml sn ++ BAW G u 16 (fun _ => 0)))) A) args s (⟨2, 1, 16, 33⟩ : Room).cells (⟨2, 1, 16, 33⟩ : Room).slots A = Q
  obtain ⟨hx, hb, hr, hts, hown, hlk, hml⟩ := C
  have hown : s.vm.findClass RJ3 = some m.cls := hown
  have hS : va_S A s.heap s.heap [] := va_S.rf
  have hl : lv_has ls 1 [(0, .ref sh)] := hl
  refine lv_aload_n hx hb dJ3_init_0 rfl (lv_at hl 0 rfl) ?_
  refine lv_bipush (v := nI 16) hx hb dJ3_init_1 (by decide) ?_
  refine callIv (As := [.int (nI 16)]) (rest := []) (wc := (SIW G sh vv sk ml sn)) (wr := ([] : va_W)) ⟨hx, hb, hml, hown, hts⟩ (m_J2_init l G sh vv sk ml sn ) (cwI 1 hts (lw_meth q241) rfl rfl rfl (hts _ q93) (hts _ q239) (hts _ q240) rfl (by decide +kernel) ⟨Nat.le_of_ble_eq_true rfl, Nat.le_of_ble_eq_true rfl⟩) hK hZ hA hP hD hS [0] [] rfl rfl (by decide) (by decide) (by decide) rfl hl.1 (Nat.le_of_ble_eq_true rfl) ⟨Nat.le_of_ble_eq_true rfl, Nat.le_of_ble_eq_true rfl⟩ rfl dJ3_init_3 (fun u9 H locs hw9 hP hD hS => ?_)
  refine W.widen (k := 1) (n := 16) (Nat.le_refl _) (Nat.le_refl _) ?_
  obtain ⟨v2_1, e9⟩ : ∃ z, z = u9 := ⟨_, rfl⟩
  subst e9
  have hP : va_P G.1 CL (SIW G sh (.ref v2_1) false ml sn ++ BAW G v2_1 16 (fun _ => 0)) _ := hP
  have hD : va_D A (SIW G sh (.ref v2_1) false ml sn ++ BAW G v2_1 16 (fun _ => 0)) := hD
  subst hQ
  exact ret_v hx hb hr hlk v2_1 trivial hP hD hS dJ3_init_6
