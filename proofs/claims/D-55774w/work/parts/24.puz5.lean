theorem ay_iff {P : Nat → Bool} : ∀ {n : Nat}, ay P n = true ↔ ∃ k, k < n ∧ P k = true
  | 0 => ⟨fun h => absurd h (by simp [ay]), fun ⟨k, h, _⟩ => absurd h (Nat.not_lt_zero _)⟩
  | n + 1 => by
    rw [ay, Bool.or_eq_true, ay_iff]
    constructor
    · rintro (⟨k, h1, h2⟩ | h)
      · exact ⟨k, by omega, h2⟩
      · exact ⟨n, by omega, h⟩
    · rintro ⟨k, h1, h2⟩
      by_cases hk : k = n
      · subst hk; exact Or.inr h2
      · exact Or.inl ⟨k, by omega, h2⟩
theorem al_iff {P : Nat → Bool} {n : Nat} : al P n = true ↔ ∀ k, k < n → P k = true := by
  constructor
  · intro h k hk
    cases hp : P k with
    | true => rfl
    | false => rw [al_f hk hp] at h; exact absurd h (by decide)
  · exact al_t
theorem cn_al {P : Nat → Bool} : ∀ {n : Nat}, cn P n = n ↔ al P n = true
  | 0 => by simp [cn, al]
  | n + 1 => by
    have h1 := cn_le P n
    rw [al, Bool.and_eq_true, ← cn_al, cn]
    constructor
    · intro h
      by_cases hp : P n = true
      · rw [if_pos hp] at h; exact ⟨by omega, hp⟩
      · rw [if_neg hp] at h; omega
    · rintro ⟨h, hp⟩; rw [if_pos hp, h]
theorem rch_0 (nr nc : Nat) (B : Nat → Bool) (K L : Nat → Nat) : rch nr nc B K 0 L = mtN (nr * nc) L K := by
  show decide (hm nr nc L K = nr * nc) = mtN (nr * nc) L K
  rw [Bool.eq_iff_iff, decide_eq_true_eq]
  exact cn_al
theorem mt_tn {nr nc t : Nat} (hd : 2 ≤ nr ∧ nr ≤ 3 ∧ 2 ≤ nc ∧ nc ≤ 3) (ht : t < 2 * (nr + nc)) (L K : Nat → Nat) : mtN (nr * nc) (tn nr nc t L) K = mtN (nr * nc) L (tn nr nc (bk t) K) := by
  obtain ⟨b1, b2, -⟩ := bk_lt hd ht
  unfold mtN
  rw [Bool.eq_iff_iff, al_iff, al_iff]
  constructor
  · intro h q hq
    have h1 := h (gs nr nc q t) (gs_lt hd ht hq)
    simp only [tn] at h1 ⊢
    rw [if_pos (gs_lt hd ht hq), gs_bk hd ht hq] at h1
    rw [if_pos hq, b2]
    exact h1
  · intro h p hp
    have h1 := h (gs nr nc p (bk t)) (gs_lt hd b1 hp)
    have h2 := gs_bk hd b1 hp
    rw [b2] at h2
    simp only [tn] at h1 ⊢
    rw [if_pos (gs_lt hd b1 hp), b2, h2] at h1
    rw [if_pos hp]
    exact h1
theorem rch_s {nr nc : Nat} {B : Nat → Bool} {K L : Nat → Nat} {d : Nat} : rch nr nc B K (d + 1) L = true ↔ ∃ t, t < 2 * (nr + nc) ∧ B (t / 2) = false ∧ rch nr nc B K d (tn nr nc t L) = true := by
  rw [rch, ay_iff]
  constructor
  · rintro ⟨k, h1, h2⟩
    rw [Bool.and_eq_true] at h2
    exact ⟨k, h1, by simpa using h2.1, h2.2⟩
  · rintro ⟨k, h1, h2, h3⟩
    exact ⟨k, h1, by rw [h2, h3]; rfl⟩
theorem rch_last {nr nc : Nat} {B : Nat → Bool} (hd : 2 ≤ nr ∧ nr ≤ 3 ∧ 2 ≤ nc ∧ nc ≤ 3) : ∀ (d : Nat) (K L : Nat → Nat), rch nr nc B K (d + 1) L = true ↔ ∃ t, t < 2 * (nr + nc) ∧ B (t / 2) = false ∧ rch nr nc B (tn nr nc (bk t) K) d L = true
  | 0, K, L => by
    rw [rch_s]
    constructor
    · rintro ⟨t, h1, h2, h3⟩
      exact ⟨t, h1, h2, by rw [rch_0, ← mt_tn hd h1, ← rch_0 nr nc B]; exact h3⟩
    · rintro ⟨t, h1, h2, h3⟩
      exact ⟨t, h1, h2, by rw [rch_0, mt_tn hd h1, ← rch_0 nr nc B]; exact h3⟩
  | d + 1, K, L => by
    rw [rch_s]
    constructor
    · rintro ⟨t, h1, h2, h3⟩
      obtain ⟨u, g1, g2, g3⟩ := (rch_last hd d K (tn nr nc t L)).mp h3
      exact ⟨u, g1, g2, rch_s.mpr ⟨t, h1, h2, g3⟩⟩
    · rintro ⟨u, g1, g2, g3⟩
      obtain ⟨t, h1, h2, h3⟩ := rch_s.mp g3
      exact ⟨t, h1, h2, (rch_last hd d K (tn nr nc t L)).mpr ⟨u, g1, g2, h3⟩⟩
theorem dfN_mem {nr nc : Nat} {B : Nat → Bool} {K : Nat → Nat} : ∀ (d many j : Nat) (L : Nat → Nat), (∃ e, e ∈ dfN nr nc B d many L ∧ mtN (nr * nc) e.1 K = true ∧ e.2 = many + j) ↔ (j ≤ d ∧ rch nr nc B K j L = true)
  | 0, many, j, L => by
    simp only [dfN, List.mem_singleton]
    constructor
    · rintro ⟨e, rfl, h1, h2⟩
      have : j = 0 := by simp at h2; omega
      subst this
      exact ⟨Nat.le_refl 0, by rw [rch_0]; exact h1⟩
    · rintro ⟨h1, h2⟩
      have : j = 0 := by omega
      subst this
      exact ⟨_, rfl, by rw [← rch_0 nr nc B]; exact h2, rfl⟩
  | d + 1, many, j, L => by
    simp only [dfN, List.mem_cons, List.mem_flatMap, List.mem_range]
    constructor
    · rintro ⟨e, h | ⟨t, ht, he⟩, h1, h2⟩
      · subst h
        have : j = 0 := by simp at h2; omega
        subst this
        exact ⟨Nat.zero_le _, by rw [rch_0]; exact h1⟩
      · by_cases hB : B (t / 2) = true
        · rw [if_pos hB] at he; exact absurd he (by simp)
        · rw [if_neg hB] at he
          have hg : many + 1 ≤ e.2 := by
            clear h1 h2 ht
            have key : ∀ (d many : Nat) (L : Nat → Nat) (e : (Nat → Nat) × Nat), e ∈ dfN nr nc B d many L → many ≤ e.2 := by
              intro d
              induction d with
              | zero => intro many L e h; simp only [dfN, List.mem_singleton] at h; subst h; exact Nat.le_refl _
              | succ d ih =>
                intro many L e h
                simp only [dfN, List.mem_cons, List.mem_flatMap, List.mem_range] at h
                rcases h with h | ⟨t, -, h⟩
                · subst h; exact Nat.le_refl _
                · by_cases hB : B (t / 2) = true
                  · rw [if_pos hB] at h; exact absurd h (by simp)
                  · rw [if_neg hB] at h; have := ih _ _ _ h; omega
            exact key _ _ _ _ he
          obtain ⟨i, rfl⟩ : ∃ i, j = i + 1 := ⟨j - 1, by omega⟩
          obtain ⟨g1, g2⟩ := (dfN_mem d (many + 1) i (tn nr nc t L)).mp ⟨e, he, h1, by omega⟩
          exact ⟨by omega, rch_s.mpr ⟨t, ht, by simpa using hB, g2⟩⟩
    · rintro ⟨h1, h2⟩
      cases j with
      | zero => exact ⟨(L, many), Or.inl rfl, by rw [← rch_0 nr nc B]; exact h2, rfl⟩
      | succ i =>
        obtain ⟨t, ht, hB, h3⟩ := rch_s.mp h2
        obtain ⟨e, g1, g2, g3⟩ := (dfN_mem d (many + 1) i (tn nr nc t L)).mpr ⟨by omega, h3⟩
        exact ⟨e, Or.inr ⟨t, ht, by rw [if_neg (by rw [hB]; decide)]; exact g1⟩, g2, by omega⟩
theorem mnL_le {n : Nat} {K : Nat → Nat} {m : Nat} : ∀ (xs : List ((Nat → Nat) × Nat)) (b : Nat), xs.foldl (fun b e => if e.2 < b ∧ mtN n e.1 K = true then e.2 else b) b ≤ m ↔ (b ≤ m ∨ ∃ e, e ∈ xs ∧ mtN n e.1 K = true ∧ e.2 ≤ m)
  | [], b => by simp
  | x :: xs, b => by
    rw [List.foldl_cons, mnL_le xs]
    by_cases h : x.2 < b ∧ mtN n x.1 K = true
    · rw [if_pos h]
      constructor
      · rintro (h1 | ⟨e, h1, h2⟩)
        · exact Or.inr ⟨x, List.mem_cons_self, h.2, h1⟩
        · exact Or.inr ⟨e, List.mem_cons_of_mem _ h1, h2⟩
      · rintro (h1 | ⟨e, h1, h2, h3⟩)
        · exact Or.inl (by omega)
        · rcases List.mem_cons.mp h1 with rfl | h4
          · exact Or.inl h3
          · exact Or.inr ⟨e, h4, h2, h3⟩
    · rw [if_neg h]
      constructor
      · rintro (h1 | ⟨e, h1, h2⟩)
        · exact Or.inl h1
        · exact Or.inr ⟨e, List.mem_cons_of_mem _ h1, h2⟩
      · rintro (h1 | ⟨e, h1, h2, h3⟩)
        · exact Or.inl h1
        · rcases List.mem_cons.mp h1 with rfl | h4
          · by_cases hb : e.2 < b
            · exact absurd ⟨hb, h2⟩ h
            · exact Or.inl (by omega)
          · exact Or.inr ⟨e, h4, h2, h3⟩
theorem mnL_df {nr nc : Nat} {B : Nat → Bool} {K L : Nat → Nat} {m : Nat} (hm : m < 4) : mnL (nr * nc) K (dfN nr nc B 2 0 L) ≤ m ↔ ∃ j, j ≤ m ∧ j ≤ 2 ∧ rch nr nc B K j L = true := by
  rw [mnL, mnL_le]
  constructor
  · rintro (h | ⟨e, h1, h2, h3⟩)
    · omega
    · obtain ⟨g1, g2⟩ := (dfN_mem 2 0 e.2 L).mp ⟨e, h1, h2, by omega⟩
      exact ⟨e.2, h3, g1, g2⟩
  · rintro ⟨j, h1, h2, h3⟩
    obtain ⟨e, g1, g2, g3⟩ := (dfN_mem 2 0 j L).mpr ⟨h2, h3⟩
    exact Or.inr ⟨e, g1, g2, by omega⟩
theorem aw2_iff {nr nc : Nat} {B : Nat → Bool} {K : Nat → Nat} {xs : List ((Nat → Nat) × Nat)} {m : Nat} : ∀ T, aw2 nr nc B K xs T ≤ m ↔ (mnL (nr * nc) K xs ≤ m ∨ ∃ t, t < T ∧ B (t / 2) = false ∧ mnL (nr * nc) (tn nr nc (bk t) K) xs + 1 ≤ m)
  | 0 => ⟨fun h => Or.inl h, fun h => h.elim id (fun ⟨t, h, _⟩ => absurd h (Nat.not_lt_zero _))⟩
  | T + 1 => by
    have ih := aw2_iff (nr := nr) (nc := nc) (B := B) (K := K) (xs := xs) (m := m) T
    rw [aw2]
    by_cases hB : B (T / 2) = true
    · rw [if_pos hB, ih]
      constructor
      · rintro (h | ⟨t, h1, h2⟩)
        · exact Or.inl h
        · exact Or.inr ⟨t, by omega, h2⟩
      · rintro (h | ⟨t, h1, h2, h3⟩)
        · exact Or.inl h
        · by_cases ht : t = T
          · subst ht; rw [hB] at h2; exact absurd h2 (by decide)
          · exact Or.inr ⟨t, by omega, h2, h3⟩
    · rw [if_neg hB]
      constructor
      · intro h
        rcases (show aw2 nr nc B K xs T ≤ m ∨ mnL (nr * nc) (tn nr nc (bk T) K) xs + 1 ≤ m by omega) with h | h
        · rcases ih.mp h with h | ⟨t, h1, h2⟩
          · exact Or.inl h
          · exact Or.inr ⟨t, by omega, h2⟩
        · exact Or.inr ⟨T, by omega, by simpa using hB, h⟩
      · rintro (h | ⟨t, h1, h2, h3⟩)
        · have := ih.mpr (Or.inl h); omega
        · by_cases ht : t = T
          · subst ht; omega
          · have := ih.mpr (Or.inr ⟨t, by omega, h2, h3⟩); omega
theorem awN_iff {f : Nat → Bool} {m : Nat} (hm : m < 4) : awN f ≤ m ↔ ∃ j, j ≤ m ∧ f j = true := by
  unfold awN
  constructor
  · intro h
    by_cases h0 : f 0 = true
    · exact ⟨0, by omega, h0⟩
    · rw [if_neg h0] at h
      by_cases h1 : f 1 = true
      · rw [if_pos h1] at h; exact ⟨1, h, h1⟩
      · rw [if_neg h1] at h
        by_cases h2 : f 2 = true
        · rw [if_pos h2] at h; exact ⟨2, h, h2⟩
        · rw [if_neg h2] at h
          by_cases h3 : f 3 = true
          · rw [if_pos h3] at h; exact ⟨3, h, h3⟩
          · rw [if_neg h3] at h; omega
  · rintro ⟨j, h1, h2⟩
    rcases (show j = 0 ∨ j = 1 ∨ j = 2 ∨ j = 3 by omega) with rfl | rfl | rfl | rfl <;> (repeat' split) <;> first | omega | simp_all
/-- meeting halfway finds the same as trying all -/
theorem aw2_awN {nr nc : Nat} {B : Nat → Bool} (hd : 2 ≤ nr ∧ nr ≤ 3 ∧ 2 ≤ nc ∧ nc ≤ 3) (K L : Nat → Nat) : aw2 nr nc B K (dfN nr nc B 2 0 L) (2 * (nr + nc)) = awN (fun d => rch nr nc B K d L) := by
  have a4 : awN (fun d => rch nr nc B K d L) ≤ 4 := awN_le _
  have b4 : aw2 nr nc B K (dfN nr nc B 2 0 L) (2 * (nr + nc)) ≤ 4 := aw2_le nr nc B K ((mnL_le (n := nr * nc) (K := K) (m := 4) (dfN nr nc B 2 0 L) 4).mpr (Or.inl (Nat.le_refl 4))) _
  have key : ∀ m, m < 4 → (aw2 nr nc B K (dfN nr nc B 2 0 L) (2 * (nr + nc)) ≤ m ↔ awN (fun d => rch nr nc B K d L) ≤ m) := by
    intro m hm
    rw [aw2_iff, awN_iff hm, mnL_df hm]
    constructor
    · rintro (⟨j, h1, h2, h3⟩ | ⟨t, h1, h2, h3⟩)
      · exact ⟨j, h1, h3⟩
      · obtain ⟨j, g1, g2, g3⟩ := (mnL_df (m := m - 1) (by omega)).mp (show mnL (nr * nc) (tn nr nc (bk t) K) (dfN nr nc B 2 0 L) ≤ m - 1 by omega)
        exact ⟨j + 1, by omega, (rch_last hd j K L).mpr ⟨t, h1, h2, g3⟩⟩
    · rintro ⟨j, h1, h2⟩
      by_cases hj : j ≤ 2
      · exact Or.inl ⟨j, h1, hj, h2⟩
      · have hj3 : j = 2 + 1 := by omega
        subst hj3
        obtain ⟨t, g1, g2, g3⟩ := (rch_last hd 2 K L).mp h2
        have := (mnL_df (m := 2) (by omega)).mpr ⟨2, Nat.le_refl 2, Nat.le_refl 2, g3⟩
        exact Or.inr ⟨t, g1, g2, by omega⟩
  have k0 := key 0 (by omega)
  have k1 := key 1 (by omega)
  have k2 := key 2 (by omega)
  have k3 := key 3 (by omega)
  omega
set_option maxHeartbeats 4000000 in
set_option maxRecDepth 100000 in
theorem m_X2_away (l : Launch) (G : GG) (ph : Nat) (pd : Nat → Nat) (nr : Nat) (nc : Nat) (pL : Nat → Nat) (pG : Nat → Nat) (pB : Nat → Bool) (pk : Nat → Int32) (pa : Nat → Nat) (pt : Nat → Nat) (pm : Nat) (hd : 2 ≤ nr ∧ nr ≤ 3 ∧ 2 ≤ nc ∧ nc ≤ 3) (hL : ∀ i, pL i < 65536) (hG : ∀ i, pG i < 65536) (hA0 : ∀ i, pa i < 65536) (hT0 : ∀ i, pt i < 100) : MM l G yX2_away cX2_away 3 (some .int) ⟨5, 0, 0, 109⟩ [.ref ph] (PW G ph pd nr nc pL pG pB pk pa pt pm) (Qi_ G (fun (r : Int32) (u : (Nat → Nat) × (Nat → Nat) × (Nat)) => (r = (oN 4 (awN (fun d => rch nr nc pB pG d pL)))) ∧ ((∀ i, u.1 i < 65536) ∧ ∀ i, u.2.1 i < 100)) (fun (u : (Nat → Nat) × (Nat → Nat) × (Nat)) => (PW G ph pd nr nc pL pG pB pk u.1 u.2.1 u.2.2))) := by
  refine MM.of (by decide) (Nat.le_of_ble_eq_true rfl) ?_
  intro p e s m args below meth cd A C hini hA hK hZ hP hD ls hl
  generalize hQ : MQ below ((Qi_ G (fun (r : Int32) (u : (Nat → Nat) × (Nat → Nat) × (Nat)) => (r = (oN 4 (awN (fun d => rch nr nc pB pG d pL)))) ∧ ((∀ i, u.1 i < 65536) ∧ ∀ i, u.2.1 i < 100)) (fun (u : (Nat → Nat) × (Nat → Nat) × (Nat)) => (PW G ph pd nr nc pL pG pB pk u.1 u.2.1 u.2.2))) A) args s (⟨5, 0, 0, 109⟩ : Room).cells (⟨5, 0, 0, 109⟩ : Room).slots A = Q
  obtain ⟨hx, hb, hr, hts, hown, hlk, hml⟩ := C
  have hown : s.vm.findClass RX2 = some m.cls := hown
  have hS : va_S A s.heap s.heap [] := va_S.rf
  have hl : lv_has ls 3 [(0, .ref ph)] := hl
  have hmu := dm_mul hd
  refine lv_aload_n hx hb dX2_away_0 rfl (lv_at hl 0 rfl) ?_
  refine lv_iconst (v := nI 0) hx hb dX2_away_1 (by decide) ?_
  refine va_put (D := G.1) (ci := 1) (v := .int (nI 0)) (ty := .int) (C := RX2) (T := TX2) (N := 14) hx hb hts in_X2 tyX2 tyX2_ok nmX2 hown hK hP hD hS 0 rfl rfl 13 (by decide) (hts _ q165) (fun _ h9 => h9) rfl (by decide +kernel) rfl rfl (Nat.le_of_ble_eq_true rfl) dX2_away_2 (fun H locs hP hD hS => ?_)
  have hP : va_P G.1 CL (PW G ph pd nr nc pL pG pB pk pa pt 0) _ := hP
  have hD : va_D A (PW G ph pd nr nc pL pG pB pk pa pt 0) := hD
  refine lv_aload_n hx hb dX2_away_5 rfl (lv_at hl 0 rfl) ?_
  refine lv_iconst (v := nI 0) hx hb dX2_away_6 (by decide) ?_
  refine lv_iconst (v := nI 2) hx hb dX2_away_7 (by decide) ?_
  refine callVv (As := [.int (nI 0), .int (nI 2)]) (rest := []) (wc := (PW G ph pd nr nc pL pG pB pk pa pt 0)) (wr := ([] : va_W)) ⟨hx, hb, hml, hown, hts⟩ (m_X2_goesAhead__0 l G ph pd nr nc pL pG pB pk pa pt 0 ([]) (by first | assumption | omega) (HoldA.nil hA0 hT0) (Nat.le_refl _) (by first | assumption | omega)) (cwV 2 hts (lw_V q1013 q1015 qs8 q89 q1016) rfl rfl rfl (by decide +kernel) ⟨Nat.le_of_ble_eq_true rfl, Nat.le_of_ble_eq_true rfl⟩) hK hZ hA hP hD hS [0, 1, 2, 3, 4, 5] [] rfl rfl (by decide) (by decide) (by decide) 0 1 rfl rfl rfl hl.1 (Nat.le_of_ble_eq_true rfl) ⟨Nat.le_of_ble_eq_true rfl, Nat.le_of_ble_eq_true rfl⟩ rfl dX2_away_8 (fun u9 H locs hw9 hP hD hS => ?_)
  obtain ⟨a1_1, t1_1, n1_1⟩ := u9
  have hw8 : HoldA (([]) ++ dfN nr nc pB 2 0 pL) a1_1 t1_1 n1_1 := hw9
  have hP : va_P G.1 CL (PW G ph pd nr nc pL pG pB pk a1_1 t1_1 n1_1) _ := hP
  have hD : va_D A (PW G ph pd nr nc pL pG pB pk a1_1 t1_1 n1_1) := hD
  have h0 : mnL (nr * nc) pG (dfN nr nc pB 2 0 pL) ≤ 4 := (mnL_le (n := nr * nc) (K := pG) (m := 4) (dfN nr nc pB 2 0 pL) 4).mpr (Or.inl (Nat.le_refl 4))
  refine lv_aload_n hx hb dX2_away_11 rfl (lv_at hl 0 rfl) ?_
  refine callVi (As := []) (rest := []) (wc := (PW G ph pd nr nc pL pG pB pk a1_1 t1_1 n1_1)) (wr := ([] : va_W)) ⟨hx, hb, hml, hown, hts⟩ (m_X2_met l G ph pd nr nc pL pG pB pk a1_1 t1_1 n1_1 (by first | assumption | omega) (by rw [hw8.1]; exact dfN_len nr nc pB (by omega) 2 0 pL (by decide)) (by first | assumption | omega) hw8.2.2.1 hw8.2.2.2) (cwV 0 hts (lw_V q1038 q1040 qs10 q89 q1041) rfl rfl rfl (by decide +kernel) ⟨Nat.le_of_ble_eq_true rfl, Nat.le_of_ble_eq_true rfl⟩) hK hZ hA hP hD hS [0, 1, 2, 3, 4, 5] [] rfl rfl (by decide) (by decide) (by decide) 0 1 rfl rfl rfl hl.1 (Nat.le_of_ble_eq_true rfl) ⟨Nat.le_of_ble_eq_true rfl, Nat.le_of_ble_eq_true rfl⟩ rfl dX2_away_12 (fun r9 u9 H locs hw9 hP hD hS => ?_)
  subst hw9
  have hP : va_P G.1 CL (PW G ph pd nr nc pL pG pB pk a1_1 t1_1 n1_1) _ := hP
  have hD : va_D A (PW G ph pd nr nc pL pG pB pk a1_1 t1_1 n1_1) := hD
  refine lv_istore_n (lv' := [(1, .int (nI (mnN (nr * nc) pG a1_1 t1_1 n1_1))), (0, .ref ph)]) hx hb dX2_away_15 rfl hl (by decide) rfl (fun ls hl => ?_)
  refine lv_iconst (v := nI 0) hx hb dX2_away_16 (by decide) ?_
  refine lv_istore_n (lv' := [(2, .int (nI 0)), (1, .int (nI (mnN (nr * nc) pG a1_1 t1_1 n1_1))), (0, .ref ph)]) hx hb dX2_away_17 rfl hl (by decide) rfl (fun ls hl => ?_)
  have lp18 : ∀ (f : Nat) (t : Nat) (b : Nat), 2 * (nr + nc) - t < f → (t ≤ 2 * (nr + nc)) → (b = aw2 nr nc pB pG (dfN nr nc pB 2 0 pL) t) → (b ≤ 4) → ∀ (H : Heap) (locs : List Loc) (ls : Array Slot), va_P G.1 CL (PW G ph pd nr nc pL pG pB pk a1_1 t1_1 n1_1) H → va_D A (PW G ph pd nr nc pL pG pB pk a1_1 t1_1 n1_1) → va_S A s.heap H locs → lv_has ls 3 [(2, .int (nI t)), (1, .int (nI b)), (0, .ref ph)] → W p l e (⟨5, 0, 0, 109⟩ : Room) s m args below meth cd H locs 0 0 Q (F0 m 18 ls []) := by
    intro f
    induction f with
    | zero => intro t b hf; exact absurd hf (Nat.not_lt_zero _)
    | succ f ih18 =>
      intro t b hf ht hb0 hb4 H locs ls hP hD hS hl
      refine lv_iload_n hx hb dX2_away_18 rfl (lv_at hl 0 rfl) ?_
      refine lv_aload_n hx hb dX2_away_19 rfl (lv_at hl 2 rfl) ?_
      refine callVi (As := []) (rest := [.int (nI t)]) (wc := (PW G ph pd nr nc pL pG pB pk a1_1 t1_1 n1_1)) (wr := ([] : va_W)) ⟨hx, hb, hml, hown, hts⟩ (m_X2_turns l G ph pd nr nc pL pG pB pk a1_1 t1_1 n1_1 ) (cwV 0 hts (lw_V q1022 q1023 q1024 q89 q1025) rfl rfl rfl (by decide +kernel) ⟨Nat.le_of_ble_eq_true rfl, Nat.le_of_ble_eq_true rfl⟩) hK hZ hA hP hD hS [0, 1, 2, 3, 4, 5] [] rfl rfl (by decide) (by decide) (by decide) 0 1 rfl rfl rfl hl.1 (Nat.le_of_ble_eq_true rfl) ⟨Nat.le_of_ble_eq_true rfl, Nat.le_of_ble_eq_true rfl⟩ rfl dX2_away_20 (fun r9 u9 H locs hw9 hP hD hS => ?_)
      subst hw9
      have hP : va_P G.1 CL (PW G ph pd nr nc pL pG pB pk a1_1 t1_1 n1_1) _ := hP
      have hD : va_D A (PW G ph pd nr nc pL pG pB pk a1_1 t1_1 n1_1) := hD
      refine n_cmp_ge (tgt := 72) hx hb dX2_away_23 (by decide) (by omega) (by omega) (fun c23 => ?_) (fun c23 => ?_)
      · skip
        refine lv_iload_n hx hb dX2_away_72 rfl (lv_at hl 1 rfl) ?_
        refine lv_iconst (v := nI 3) hx hb dX2_away_73 (by decide) ?_
        refine n_cmp_le (tgt := 81) hx hb dX2_away_74 (by decide) (by omega) (by omega) (fun c74 => ?_) (fun c74 => ?_)
        · skip
          refine lv_iload_n hx hb dX2_away_81 rfl (lv_at hl 1 rfl) ?_
          subst hQ
          exact ret_i hx hb hr hlk (⟨a1_1, t1_1, n1_1⟩) ⟨(by rw [← aw2_awN hd, ← show t = 2 * (nr + nc) by omega, ← hb0, oN_lt (by omega)]), ⟨hw8.2.2.1, hw8.2.2.2⟩⟩ hP hD hS rfl dX2_away_82
        · skip
          refine lv_iconst (v := (-1)) hx hb dX2_away_77 (by decide) ?_
          refine lv_goto (tgt := 82) hx hb dX2_away_78 (by decide) ?_
          subst hQ
          exact ret_i hx hb hr hlk (⟨a1_1, t1_1, n1_1⟩) ⟨(by rw [← aw2_awN hd, ← show t = 2 * (nr + nc) by omega, ← hb0, oN_ge (by omega)]), ⟨hw8.2.2.1, hw8.2.2.2⟩⟩ hP hD hS rfl dX2_away_82
      · skip
        refine lv_aload_n hx hb dX2_away_26 rfl (lv_at hl 2 rfl) ?_
        refine lv_iload_n hx hb dX2_away_27 rfl (lv_at hl 0 rfl) ?_
        refine callVi (As := [.int (nI t)]) (rest := []) (wc := (PW G ph pd nr nc pL pG pB pk a1_1 t1_1 n1_1)) (wr := ([] : va_W)) ⟨hx, hb, hml, hown, hts⟩ (m_X2_can l G ph pd nr nc pL pG pB pk a1_1 t1_1 n1_1 t (by first | assumption | omega) (by first | assumption | omega)) (cwV 1 hts (lw_V q1027 q1028 q1029 q89 q1030) rfl rfl rfl (by decide +kernel) ⟨Nat.le_of_ble_eq_true rfl, Nat.le_of_ble_eq_true rfl⟩) hK hZ hA hP hD hS [0, 1, 2, 3, 4, 5] [] rfl rfl (by decide) (by decide) (by decide) 0 1 rfl rfl rfl hl.1 (Nat.le_of_ble_eq_true rfl) ⟨Nat.le_of_ble_eq_true rfl, Nat.le_of_ble_eq_true rfl⟩ rfl dX2_away_28 (fun r9 u9 H locs hw9 hP hD hS => ?_)
        subst hw9
        have hP : va_P G.1 CL (PW G ph pd nr nc pL pG pB pk a1_1 t1_1 n1_1) _ := hP
        have hD : va_D A (PW G ph pd nr nc pL pG pB pk a1_1 t1_1 n1_1) := hD
        refine b_if_eq (tgt := 66) hx hb dX2_away_31 (by decide) (fun c31 => ?_) (fun c31 => ?_)
        · skip
          refine lv_iinc (v := nI (t + 1)) (lv' := [(2, .int (nI (t + 1))), (1, .int (nI b)), (0, .ref ph)]) hx hb dX2_away_66 hl (k := 0) rfl (nI_add _ _) (by decide) rfl (fun ls hl => ?_)
          refine lv_goto (tgt := 18) hx hb dX2_away_69 (by decide) ?_
          exact ih18 (t + 1) b (by omega) (by omega) (by rw [aw2, if_pos (by simpa using c31)]; exact hb0) (by omega) _ _ _ hP hD hS (lv_sub hl [0, 1, 2] rfl)
        · skip
          refine lv_aload_n hx hb dX2_away_34 rfl (lv_at hl 2 rfl) ?_
          refine lv_aload_n hx hb dX2_away_35 rfl (lv_at hl 2 rfl) ?_
          refine va_get (D := G.1) (ci := 1) (v := .ref (pd 1)) (C := RX2) (T := TX2) (N := 14) hx hb hts in_X2 hown hK hP 0 rfl rfl 3 (by decide) (hts _ q147) (fun _ h9 => h9) rfl dX2_away_36 ?_
          refine lv_iload_n hx hb dX2_away_39 rfl (lv_at hl 0 rfl) ?_
          refine callSi (As := [.int (nI t)]) (rest := [.ref (pd 1), .ref ph]) (wc := ([] : va_W)) (wr := (PW G ph pd nr nc pL pG pB pk a1_1 t1_1 n1_1)) ⟨hx, hb, hml, hown, hts⟩ (m_X2_back l G t (by first | assumption | omega)) (va_cwS 1 hts (lw_S q1035 q1036 q89 q1037) rfl rfl rfl (by decide +kernel) ⟨Nat.le_of_ble_eq_true rfl, Nat.le_of_ble_eq_true rfl⟩) hK hZ hA hP hD hS [] [0, 1, 2, 3, 4, 5] rfl rfl (by decide) (by decide) (by decide) rfl hl.1 (Nat.le_of_ble_eq_true rfl) ⟨Nat.le_of_ble_eq_true rfl, Nat.le_of_ble_eq_true rfl⟩ rfl dX2_away_40 (fun r9 u9 H locs hw9 hP hD hS => ?_)
          subst hw9
          have hP : va_P G.1 CL (PW G ph pd nr nc pL pG pB pk a1_1 t1_1 n1_1) _ := hP
          have hD : va_D A (PW G ph pd nr nc pL pG pB pk a1_1 t1_1 n1_1) := hD
          refine callVv (As := [.ref (pd 1), .int (nI (bk t))]) (rest := []) (wc := (PW G ph pd nr nc pL pG pB pk a1_1 t1_1 n1_1)) (wr := ([] : va_W)) ⟨hx, hb, hml, hown, hts⟩ (m_X2_turns_2__G l G ph pd nr nc pL pG pB pk a1_1 t1_1 n1_1 (bk t) (by first | assumption | omega) (bk_lt hd (by omega)).1 hG) (cwV 2 hts (lw_V q1031 q1032 q1033 q89 q1034) rfl rfl rfl (by decide +kernel) ⟨Nat.le_of_ble_eq_true rfl, Nat.le_of_ble_eq_true rfl⟩) hK hZ hA hP hD hS [0, 1, 2, 3, 4, 5] [] rfl rfl (by decide) (by decide) (by decide) 0 1 rfl rfl rfl hl.1 (Nat.le_of_ble_eq_true rfl) ⟨Nat.le_of_ble_eq_true rfl, Nat.le_of_ble_eq_true rfl⟩ rfl dX2_away_43 (fun u9 H locs hw9 hP hD hS => ?_)
          have hP : va_P G.1 CL (PW G ph pd nr nc pL (tn nr nc (bk t) pG) pB pk a1_1 t1_1 n1_1) _ := hP
          have hD : va_D A (PW G ph pd nr nc pL (tn nr nc (bk t) pG) pB pk a1_1 t1_1 n1_1) := hD
          refine lv_iload_n hx hb dX2_away_46 rfl (lv_at hl 1 rfl) ?_
          refine lv_aload_n hx hb dX2_away_47 rfl (lv_at hl 2 rfl) ?_
          refine callVi (As := []) (rest := [.int (nI b)]) (wc := (PW G ph pd nr nc pL (tn nr nc (bk t) pG) pB pk a1_1 t1_1 n1_1)) (wr := ([] : va_W)) ⟨hx, hb, hml, hown, hts⟩ (m_X2_met l G ph pd nr nc pL (tn nr nc (bk t) pG) pB pk a1_1 t1_1 n1_1 (by first | assumption | omega) (by rw [hw8.1]; exact dfN_len nr nc pB (by omega) 2 0 pL (by decide)) (tn_lt hG) hw8.2.2.1 hw8.2.2.2) (cwV 0 hts (lw_V q1038 q1040 qs10 q89 q1041) rfl rfl rfl (by decide +kernel) ⟨Nat.le_of_ble_eq_true rfl, Nat.le_of_ble_eq_true rfl⟩) hK hZ hA hP hD hS [0, 1, 2, 3, 4, 5] [] rfl rfl (by decide) (by decide) (by decide) 0 1 rfl rfl rfl hl.1 (Nat.le_of_ble_eq_true rfl) ⟨Nat.le_of_ble_eq_true rfl, Nat.le_of_ble_eq_true rfl⟩ rfl dX2_away_48 (fun r9 u9 H locs hw9 hP hD hS => ?_)
          subst hw9
          have hP : va_P G.1 CL (PW G ph pd nr nc pL (tn nr nc (bk t) pG) pB pk a1_1 t1_1 n1_1) _ := hP
          have hD : va_D A (PW G ph pd nr nc pL (tn nr nc (bk t) pG) pB pk a1_1 t1_1 n1_1) := hD
          refine lv_iconst (v := nI 1) hx hb dX2_away_51 (by decide) ?_
          refine n_iadd hx hb dX2_away_52 ?_
          have hm1 := mnN_le (nr * nc) (tn nr nc (bk t) pG) a1_1 t1_1 n1_1
          refine n_mmin hx hb (by rw [hml]; exact hl.1.symm) hown (hts _ q1046) (hts _ q422) (hts _ q103) (hts _ q423) (Nat.le_of_ble_eq_true rfl) (Nat.le_of_ble_eq_true rfl) (Nat.le_of_ble_eq_true rfl) (Nat.le_of_ble_eq_true rfl) (by omega) (by omega) dX2_away_53 ?_
          refine lv_istore_n (lv' := [(1, .int (nI (min b ((mnN (nr * nc) (tn nr nc (bk t) pG) a1_1 t1_1 n1_1) + 1)))), (2, .int (nI t)), (0, .ref ph)]) hx hb dX2_away_56 rfl hl (by decide) rfl (fun ls hl => ?_)
          refine lv_aload_n hx hb dX2_away_57 rfl (lv_at hl 2 rfl) ?_
          refine lv_aload_n hx hb dX2_away_58 rfl (lv_at hl 2 rfl) ?_
          refine va_get (D := G.1) (ci := 1) (v := .ref (pd 1)) (C := RX2) (T := TX2) (N := 14) hx hb hts in_X2 hown hK hP 0 rfl rfl 3 (by decide) (hts _ q147) (fun _ h9 => h9) rfl dX2_away_59 ?_
          refine lv_iload_n hx hb dX2_away_62 rfl (lv_at hl 1 rfl) ?_
          refine callVv (As := [.ref (pd 1), .int (nI t)]) (rest := []) (wc := (PW G ph pd nr nc pL (tn nr nc (bk t) pG) pB pk a1_1 t1_1 n1_1)) (wr := ([] : va_W)) ⟨hx, hb, hml, hown, hts⟩ (m_X2_turns_2__G l G ph pd nr nc pL (tn nr nc (bk t) pG) pB pk a1_1 t1_1 n1_1 t (by first | assumption | omega) (by first | assumption | omega) (tn_lt hG)) (cwV 2 hts (lw_V q1031 q1032 q1033 q89 q1034) rfl rfl rfl (by decide +kernel) ⟨Nat.le_of_ble_eq_true rfl, Nat.le_of_ble_eq_true rfl⟩) hK hZ hA hP hD hS [0, 1, 2, 3, 4, 5] [] rfl rfl (by decide) (by decide) (by decide) 0 1 rfl rfl rfl hl.1 (Nat.le_of_ble_eq_true rfl) ⟨Nat.le_of_ble_eq_true rfl, Nat.le_of_ble_eq_true rfl⟩ rfl dX2_away_63 (fun u9 H locs hw9 hP hD hS => ?_)
          have hP : va_P G.1 CL (PW G ph pd nr nc pL (tn nr nc t (tn nr nc (bk t) pG)) pB pk a1_1 t1_1 n1_1) _ := hP
          have hD : va_D A (PW G ph pd nr nc pL (tn nr nc t (tn nr nc (bk t) pG)) pB pk a1_1 t1_1 n1_1) := hD
          rw [show (tn nr nc t (tn nr nc (bk t) pG)) = pG from (bk_tn hd (by omega) pG)] at hP hD
          refine lv_iinc (v := nI (t + 1)) (lv' := [(2, .int (nI (t + 1))), (1, .int (nI (min b ((mnN (nr * nc) (tn nr nc (bk t) pG) a1_1 t1_1 n1_1) + 1)))), (0, .ref ph)]) hx hb dX2_away_66 hl (k := 1) rfl (nI_add _ _) (by decide) rfl (fun ls hl => ?_)
          refine lv_goto (tgt := 18) hx hb dX2_away_69 (by decide) ?_
          exact ih18 (t + 1) (min b ((mnN (nr * nc) (tn nr nc (bk t) pG) a1_1 t1_1 n1_1) + 1)) (by omega) (by omega) (by rw [aw2, if_neg (by simpa using c31), hb0, mnN_L (by omega) hw8]; rfl) (by omega) _ _ _ hP hD hS (lv_sub hl [0, 1, 2] rfl)
  exact lp18 _ 0 (mnN (nr * nc) pG a1_1 t1_1 n1_1) (Nat.lt_succ_self _) (by omega) (mnN_L (by omega) hw8) (mnN_le _ _ _ _ _) _ _ _ hP hD hS (lv_sub hl [0, 1, 2] rfl)
set_option maxHeartbeats 4000000 in
set_option maxRecDepth 100000 in
theorem m_X2_isOdd (l : Launch) (G : GG) (ph : Nat) (pd : Nat → Nat) (nr : Nat) (nc : Nat) (pL : Nat → Nat) (pG : Nat → Nat) (pB : Nat → Bool) (pk : Nat → Int32) (pa : Nat → Nat) (pt : Nat → Nat) (pm : Nat) (hd : 2 ≤ nr ∧ nr ≤ 3 ∧ 2 ≤ nc ∧ nc ≤ 3) (hL : ∀ i, pL i < 65536) (hG : ∀ i, pG i < 65536) (hpar : ∀ q, q < nr * nc → hoN (nr * nc) pL pG q < nr * nc) : MM l G yX2_isOdd cX2_isOdd 6 (some .boolean) ⟨3, 1, 9, 65⟩ [.ref ph] (PW G ph pd nr nc pL pG pB pk pa pt pm) (Qi_ G (fun (r : Int32) (_ : Unit) => r = bI (odN (hoN (nr * nc) pL pG) (nr * nc))) (fun (_ : Unit) => (PW G ph pd nr nc pL pG pB pk pa pt pm))) := by
  refine MM.of (by decide) (Nat.le_of_ble_eq_true rfl) ?_
  intro p e s m args below meth cd A C hini hA hK hZ hP hD ls hl
  generalize hQ : MQ below ((Qi_ G (fun (r : Int32) (_ : Unit) => r = bI (odN (hoN (nr * nc) pL pG) (nr * nc))) (fun (_ : Unit) => (PW G ph pd nr nc pL pG pB pk pa pt pm))) A) args s (⟨3, 1, 9, 65⟩ : Room).cells (⟨3, 1, 9, 65⟩ : Room).slots A = Q
  obtain ⟨hx, hb, hr, hts, hown, hlk, hml⟩ := C
  have hown : s.vm.findClass RX2 = some m.cls := hown
  have hS : va_S A s.heap s.heap [] := va_S.rf
  have hl : lv_has ls 6 [(0, .ref ph)] := hl
  have hmu := dm_mul hd
  refine lv_bipush (v := nI 9) hx hb dX2_isOdd_0 (by decide) ?_
  refine nw_bool hx hb (hts _ q196) hK hP hD hS hA 0 rfl (n := 9) (by decide) (Nat.le_of_ble_eq_true rfl) (Nat.le_of_ble_eq_true rfl) dX2_isOdd_2 (fun q1 H hP hD hS => ?_)
  refine W.widen (k := 1) (n := 9) (Nat.le_refl _) (Nat.le_refl _) ?_
  have hP : va_P G.1 CL (PW G ph pd nr nc pL pG pB pk pa pt pm ++ ZAW G q1 9 (fun _ => false)) _ := hP
  have hD : va_D A (PW G ph pd nr nc pL pG pB pk pa pt pm ++ ZAW G q1 9 (fun _ => false)) := hD
  refine lv_astore_n (lv' := [(1, .ref q1), (0, .ref ph)]) hx hb dX2_isOdd_4 rfl hl (by decide) rfl (fun ls hl => ?_)
  refine lv_iconst (v := nI 0) hx hb dX2_isOdd_5 (by decide) ?_
  refine lv_istore_n (lv' := [(2, .int (nI 0)), (1, .ref q1), (0, .ref ph)]) hx hb dX2_isOdd_6 rfl hl (by decide) rfl (fun ls hl => ?_)
  refine lv_iconst (v := nI 0) hx hb dX2_isOdd_7 (by decide) ?_
  refine lv_istore_n (lv' := [(3, .int (nI 0)), (2, .int (nI 0)), (1, .ref q1), (0, .ref ph)]) hx hb dX2_isOdd_8 rfl hl (by decide) rfl (fun ls hl => ?_)
  have lp9 : ∀ (f : Nat) (k : Nat) (bb : Bool) (sn : Nat → Bool), nr * nc - k < f → (k ≤ nr * nc) → (sn = (odS (hoN (nr * nc) pL pG) k).1) → (bb = (odS (hoN (nr * nc) pL pG) k).2) → ∀ (H : Heap) (locs : List Loc) (ls : Array Slot), va_P G.1 CL (PW G ph pd nr nc pL pG pB pk pa pt pm ++ ZAW G q1 9 sn) H → va_D A (PW G ph pd nr nc pL pG pB pk pa pt pm ++ ZAW G q1 9 sn) → va_S A s.heap H locs → lv_has ls 6 [(3, .int (nI k)), (2, .int (bI bb)), (1, .ref q1), (0, .ref ph)] → W p l e (⟨3, 1, 9, 65⟩ : Room) s m args below meth cd H locs 1 9 Q (F0 m 9 ls []) := by
    intro f
    induction f with
    | zero => intro k bb sn hf; exact absurd hf (Nat.not_lt_zero _)
    | succ f ih9 =>
      intro k bb sn hf hk hs0 hb0 H locs ls hP hD hS hl
      refine lv_iload_n hx hb dX2_isOdd_9 rfl (lv_at hl 0 rfl) ?_
      refine lv_aload_n hx hb dX2_isOdd_10 rfl (lv_at hl 3 rfl) ?_
      refine callVi (As := []) (rest := [.int (nI k)]) (wc := (PW G ph pd nr nc pL pG pB pk pa pt pm)) (wr := (ZAW G q1 9 sn)) ⟨hx, hb, hml, hown, hts⟩ (m_X2_places l G ph pd nr nc pL pG pB pk pa pt pm ) (cwV 0 hts (lw_V q474 q475 q476 q89 q477) rfl rfl rfl (by decide +kernel) ⟨Nat.le_of_ble_eq_true rfl, Nat.le_of_ble_eq_true rfl⟩) hK hZ hA hP hD hS [0, 1, 2, 3, 4, 5] [6] rfl rfl (by decide) (by decide) (by decide) 0 1 rfl rfl rfl hl.1 (Nat.le_of_ble_eq_true rfl) ⟨Nat.le_of_ble_eq_true rfl, Nat.le_of_ble_eq_true rfl⟩ rfl dX2_isOdd_11 (fun r9 u9 H locs hw9 hP hD hS => ?_)
      subst hw9
      obtain ⟨hP, hD⟩ := re_PD (w := (PW G ph pd nr nc pL pG pB pk pa pt pm ++ ZAW G q1 9 sn)) hP hD [1, 2, 3, 4, 5, 6, 0] (by decide) rfl
      refine n_cmp_ge (tgt := 75) hx hb dX2_isOdd_14 (by decide) (by omega) (by omega) (fun c14 => ?_) (fun c14 => ?_)
      · skip
        refine lv_iload_n hx hb dX2_isOdd_75 rfl (lv_at hl 1 rfl) ?_
        obtain ⟨hP, hD⟩ := re_PD (w := (PW G ph pd nr nc pL pG pB pk pa pt pm)) hP hD [0, 1, 2, 3, 4, 5] (by decide) rfl
        subst hQ
        exact ret_i hx hb hr hlk () (congrArg bI (by rw [hb0, show k = nr * nc by omega]; rfl)) hP hD hS (bI_nar _) dX2_isOdd_76
      · skip
        refine lv_iconst (v := nI 0) hx hb dX2_isOdd_17 (by decide) ?_
        refine lv_istore (lv' := [(4, .int (nI 0)), (3, .int (nI k)), (2, .int (bI bb)), (1, .ref q1), (0, .ref ph)]) hx hb dX2_isOdd_18 hl (by decide) rfl (fun ls hl => ?_)
        refine lv_iload_n hx hb dX2_isOdd_20 rfl (lv_at hl 1 rfl) ?_
        refine lv_istore (lv' := [(5, .int (nI k)), (4, .int (nI 0)), (3, .int (nI k)), (2, .int (bI bb)), (1, .ref q1), (0, .ref ph)]) hx hb dX2_isOdd_21 hl (by decide) rfl (fun ls hl => ?_)
        have lp23 : ∀ (f : Nat) (le : Nat) (ax : Nat) (s2 : Nat → Bool) (fu : Nat), fu < f → (ax < nr * nc) → (wkN (hoN (nr * nc) pL pG) fu s2 ax le = wkN (hoN (nr * nc) pL pG) 10 sn k 0) → (cn (fun j => !s2 j) 9 < fu) → (le + cn (fun j => !s2 j) 9 ≤ 9) → ∀ (H : Heap) (locs : List Loc) (ls : Array Slot), va_P G.1 CL (PW G ph pd nr nc pL pG pB pk pa pt pm ++ ZAW G q1 9 s2) H → va_D A (PW G ph pd nr nc pL pG pB pk pa pt pm ++ ZAW G q1 9 s2) → va_S A s.heap H locs → lv_has ls 6 [(5, .int (nI ax)), (4, .int (nI le)), (3, .int (nI k)), (2, .int (bI bb)), (1, .ref q1), (0, .ref ph)] → W p l e (⟨3, 1, 9, 65⟩ : Room) s m args below meth cd H locs 1 9 Q (F0 m 23 ls []) := by
          intro f
          induction f with
          | zero => intro le ax s2 fu hf; exact absurd hf (Nat.not_lt_zero _)
          | succ f ih23 =>
            intro le ax s2 fu hf hax hw hfu hle H locs ls hP hD hS hl
            refine lv_aload_n hx hb dX2_isOdd_23 rfl (lv_at hl 4 rfl) ?_
            refine lv_iload hx hb dX2_isOdd_24 (lv_at hl 0 rfl) ?_
            refine b_zald hx hb hK hP 6 0 rfl rfl (by omega) (by decide) dX2_isOdd_26 ?_
            refine b_if_ne (tgt := 49) hx hb dX2_isOdd_27 (by decide) (fun c27 => ?_) (fun c27 => ?_)
            · skip
              have hX : (s2, le) = wkN (hoN (nr * nc) pL pG) 10 sn k 0 := by
                rw [← hw]; obtain ⟨m9, rfl⟩ : ∃ m9, fu = m9 + 1 := ⟨fu - 1, by omega⟩
                rw [wkN, if_pos c27]
              refine lv_iload_n hx hb dX2_isOdd_49 rfl (lv_at hl 3 rfl) ?_
              refine lv_iload hx hb dX2_isOdd_50 (lv_at hl 1 rfl) ?_
              refine n_if_le (tgt := 66) hx hb dX2_isOdd_52 (by decide) (by omega) (fun c52 => ?_) (fun c52 => ?_)
              · skip
                refine lv_iconst (v := nI 0) hx hb dX2_isOdd_66 (by decide) ?_
                refine b_ixor (a := bb) (b := false) hx hb dX2_isOdd_67 ?_
                refine lv_istore_n (lv' := [(2, .int (bI (bb ^^ false))), (5, .int (nI ax)), (4, .int (nI le)), (3, .int (nI k)), (1, .ref q1), (0, .ref ph)]) hx hb dX2_isOdd_68 rfl hl (by decide) rfl (fun ls hl => ?_)
                refine lv_iinc (v := nI (k + 1)) (lv' := [(3, .int (nI (k + 1))), (2, .int (bI (bb ^^ false))), (5, .int (nI ax)), (4, .int (nI le)), (1, .ref q1), (0, .ref ph)]) hx hb dX2_isOdd_69 hl (k := 3) rfl (nI_add _ _) (by decide) rfl (fun ls hl => ?_)
                refine lv_goto (tgt := 9) hx hb dX2_isOdd_72 (by decide) ?_
                exact ih9 (k + 1) (bb ^^ false) s2 (by omega) (by omega) (by rw [odS, ← hs0, ← hX]) (by rw [odS, ← hs0, ← hX, hb0]; first | (simp [c52, c59]; done) | (simp [c52, show ¬ le % 2 = 0 by omega]; done) | (simp [show ¬ 0 < le by omega]; done)) _ _ _ hP hD hS (lv_sub hl [0, 1, 4, 5] rfl)
              · skip
                refine lv_iload hx hb dX2_isOdd_55 (lv_at hl 1 rfl) ?_
                refine lv_iconst (v := nI 2) hx hb dX2_isOdd_57 (by decide) ?_
                refine n_irem hx hb (by omega) (by omega) (by omega) dX2_isOdd_58 ?_
                refine n_if_ne (tgt := 66) hx hb dX2_isOdd_59 (by decide) (by omega) (fun c59 => ?_) (fun c59 => ?_)
                · skip
                  refine lv_iconst (v := nI 0) hx hb dX2_isOdd_66 (by decide) ?_
                  refine b_ixor (a := bb) (b := false) hx hb dX2_isOdd_67 ?_
                  refine lv_istore_n (lv' := [(2, .int (bI (bb ^^ false))), (5, .int (nI ax)), (4, .int (nI le)), (3, .int (nI k)), (1, .ref q1), (0, .ref ph)]) hx hb dX2_isOdd_68 rfl hl (by decide) rfl (fun ls hl => ?_)
                  refine lv_iinc (v := nI (k + 1)) (lv' := [(3, .int (nI (k + 1))), (2, .int (bI (bb ^^ false))), (5, .int (nI ax)), (4, .int (nI le)), (1, .ref q1), (0, .ref ph)]) hx hb dX2_isOdd_69 hl (k := 3) rfl (nI_add _ _) (by decide) rfl (fun ls hl => ?_)
                  refine lv_goto (tgt := 9) hx hb dX2_isOdd_72 (by decide) ?_
                  exact ih9 (k + 1) (bb ^^ false) s2 (by omega) (by omega) (by rw [odS, ← hs0, ← hX]) (by rw [odS, ← hs0, ← hX, hb0]; first | (simp [c52, c59]; done) | (simp [c52, show ¬ le % 2 = 0 by omega]; done) | (simp [show ¬ 0 < le by omega]; done)) _ _ _ hP hD hS (lv_sub hl [0, 1, 4, 5] rfl)
                · skip
                  refine lv_iconst (v := nI 1) hx hb dX2_isOdd_62 (by decide) ?_
                  refine lv_goto (tgt := 67) hx hb dX2_isOdd_63 (by decide) ?_
                  refine b_ixor (a := bb) (b := true) hx hb dX2_isOdd_67 ?_
                  refine lv_istore_n (lv' := [(2, .int (bI (bb ^^ true))), (5, .int (nI ax)), (4, .int (nI le)), (3, .int (nI k)), (1, .ref q1), (0, .ref ph)]) hx hb dX2_isOdd_68 rfl hl (by decide) rfl (fun ls hl => ?_)
                  refine lv_iinc (v := nI (k + 1)) (lv' := [(3, .int (nI (k + 1))), (2, .int (bI (bb ^^ true))), (5, .int (nI ax)), (4, .int (nI le)), (1, .ref q1), (0, .ref ph)]) hx hb dX2_isOdd_69 hl (k := 3) rfl (nI_add _ _) (by decide) rfl (fun ls hl => ?_)
                  refine lv_goto (tgt := 9) hx hb dX2_isOdd_72 (by decide) ?_
                  exact ih9 (k + 1) (bb ^^ true) s2 (by omega) (by omega) (by rw [odS, ← hs0, ← hX]) (by rw [odS, ← hs0, ← hX, hb0]; first | (simp [c52, c59]; done) | (simp [c52, show ¬ le % 2 = 0 by omega]; done) | (simp [show ¬ 0 < le by omega]; done)) _ _ _ hP hD hS (lv_sub hl [0, 1, 4, 5] rfl)
            · skip
              have hcu : cn (fun j => !va_up s2 ax true j) 9 + 1 = cn (fun j => !s2 j) 9 := by
                rw [← cn_up_f (P := fun j => !s2 j) (a := ax) (n := 9) (by omega) (by simp [c27])]
                congr 2; funext j; unfold va_up; split <;> simp
              refine lv_aload_n hx hb dX2_isOdd_30 rfl (lv_at hl 4 rfl) ?_
              refine lv_iload hx hb dX2_isOdd_31 (lv_at hl 0 rfl) ?_
              refine lv_iconst (v := nI 1) hx hb dX2_isOdd_33 (by decide) ?_
              refine b_zast (v := true) hx hb hK hP hD hS 6 0 rfl rfl (by omega) (by decide) dX2_isOdd_34 (fun H locs hP hD hS => ?_)
              have hP : va_P G.1 CL (PW G ph pd nr nc pL pG pB pk pa pt pm ++ ZAW G q1 9 (va_up s2 ax true)) _ := hP
              have hD : va_D A (PW G ph pd nr nc pL pG pB pk pa pt pm ++ ZAW G q1 9 (va_up s2 ax true)) := hD
              refine lv_iinc (v := nI (le + 1)) (lv' := [(4, .int (nI (le + 1))), (5, .int (nI ax)), (3, .int (nI k)), (2, .int (bI bb)), (1, .ref q1), (0, .ref ph)]) hx hb dX2_isOdd_35 hl (k := 1) rfl (nI_add _ _) (by decide) rfl (fun ls hl => ?_)
              refine lv_aload_n hx hb dX2_isOdd_38 rfl (lv_at hl 5 rfl) ?_
              refine lv_iload hx hb dX2_isOdd_39 (lv_at hl 1 rfl) ?_
              refine callVi (As := [.int (nI ax)]) (rest := []) (wc := (PW G ph pd nr nc pL pG pB pk pa pt pm)) (wr := (ZAW G q1 9 (va_up s2 ax true))) ⟨hx, hb, hml, hown, hts⟩ (m_X2_homeOf l G ph pd nr nc pL pG pB pk pa pt pm ax (by first | assumption | omega) (by first | assumption | omega) (by first | assumption | omega) (by first | assumption | omega)) (cwV 1 hts (lw_V q497 q499 qs4 q89 q500) rfl rfl rfl (by decide +kernel) ⟨Nat.le_of_ble_eq_true rfl, Nat.le_of_ble_eq_true rfl⟩) hK hZ hA hP hD hS [0, 1, 2, 3, 4, 5] [6] rfl rfl (by decide) (by decide) (by decide) 0 1 rfl rfl rfl hl.1 (Nat.le_of_ble_eq_true rfl) ⟨Nat.le_of_ble_eq_true rfl, Nat.le_of_ble_eq_true rfl⟩ rfl dX2_isOdd_41 (fun r9 u9 H locs hw9 hP hD hS => ?_)
              subst hw9
              obtain ⟨hP, hD⟩ := re_PD (w := (PW G ph pd nr nc pL pG pB pk pa pt pm ++ ZAW G q1 9 (va_up s2 ax true))) hP hD [1, 2, 3, 4, 5, 6, 0] (by decide) rfl
              have hq1 := hpar ax (by omega)
              refine eq_i (y := nI (hoN (nr * nc) pL pG ax)) (oN_lt (hpar _ (by omega))) ?_
              refine lv_istore (lv' := [(5, .int (nI (hoN (nr * nc) pL pG ax))), (4, .int (nI (le + 1))), (3, .int (nI k)), (2, .int (bI bb)), (1, .ref q1), (0, .ref ph)]) hx hb dX2_isOdd_44 hl (by decide) rfl (fun ls hl => ?_)
              refine lv_goto (tgt := 23) hx hb dX2_isOdd_46 (by decide) ?_
              exact ih23 (le + 1) (hoN (nr * nc) pL pG ax) (va_up s2 ax true) (fu - 1) (by omega) (by omega) (by rw [← hw]; obtain ⟨m9, rfl⟩ : ∃ m9, fu = m9 + 1 := ⟨fu - 1, by omega⟩; rw [wkN, if_neg (by rw [c27]; decide)]; rfl) (by have := hcu; omega) (by have := hcu; omega) _ _ _ hP hD hS (lv_sub hl [0, 1, 2, 3, 4, 5] rfl)
        exact lp23 _ 0 k sn 10 (Nat.lt_succ_self _) (by omega) rfl (by have := cn_le (fun j => !sn j) 9; omega) (by have := cn_le (fun j => !sn j) 9; omega) _ _ _ hP hD hS (lv_sub hl [0, 1, 2, 3, 4, 5] rfl)
  exact lp9 _ 0 false (fun _ => false) (Nat.lt_succ_self _) (by omega) rfl rfl _ _ _ hP hD hS (lv_sub hl [0, 1, 2, 3] rfl)
set_option maxHeartbeats 4000000 in
set_option maxRecDepth 100000 in
theorem m_X2_isOut (l : Launch) (G : GG) (ph : Nat) (pd : Nat → Nat) (nr : Nat) (nc : Nat) (pL : Nat → Nat) (pG : Nat → Nat) (pB : Nat → Bool) (pk : Nat → Int32) (pa : Nat → Nat) (pt : Nat → Nat) (pm : Nat) (hd : 2 ≤ nr ∧ nr ≤ 3 ∧ 2 ≤ nc ∧ nc ≤ 3) (hL : ∀ i, pL i < 65536) (hG : ∀ i, pG i < 65536) (hp1 : pry pL pG (nr * nc) 1 = true → ∀ q, q < nr * nc → hoN (nr * nc) pL pG q < nr * nc) : MM l G yX2_isOut cX2_isOut 1 (some .boolean) ⟨4, 1, 9, 90⟩ [.ref ph] (PW G ph pd nr nc pL pG pB pk pa pt pm) (Qi_ G (fun (r : Int32) (_ : Unit) => r = bI (otN nr nc pL pG)) (fun (_ : Unit) => (PW G ph pd nr nc pL pG pB pk pa pt pm))) := by
  refine MM.of (by decide) (Nat.le_of_ble_eq_true rfl) ?_
  intro p e s m args below meth cd A C hini hA hK hZ hP hD ls hl
  generalize hQ : MQ below ((Qi_ G (fun (r : Int32) (_ : Unit) => r = bI (otN nr nc pL pG)) (fun (_ : Unit) => (PW G ph pd nr nc pL pG pB pk pa pt pm))) A) args s (⟨4, 1, 9, 90⟩ : Room).cells (⟨4, 1, 9, 90⟩ : Room).slots A = Q
  obtain ⟨hx, hb, hr, hts, hown, hlk, hml⟩ := C
  have hown : s.vm.findClass RX2 = some m.cls := hown
  have hS : va_S A s.heap s.heap [] := va_S.rf
  have hl : lv_has ls 1 [(0, .ref ph)] := hl
  have hmu := dm_mul hd
  refine lv_aload_n hx hb dX2_isOut_0 rfl (lv_at hl 0 rfl) ?_
  refine callVi (As := []) (rest := []) (wc := (PW G ph pd nr nc pL pG pB pk pa pt pm)) (wr := ([] : va_W)) ⟨hx, hb, hml, hown, hts⟩ (m_X2_isLacking l G ph pd nr nc pL pG pB pk pa pt pm (by first | assumption | omega) (by first | assumption | omega) (by first | assumption | omega)) (cwV 0 hts (lw_V q470 q472 qs3 q89 q473) rfl rfl rfl (by decide +kernel) ⟨Nat.le_of_ble_eq_true rfl, Nat.le_of_ble_eq_true rfl⟩) hK hZ hA hP hD hS [0, 1, 2, 3, 4, 5] [] rfl rfl (by decide) (by decide) (by decide) 0 1 rfl rfl rfl hl.1 (Nat.le_of_ble_eq_true rfl) ⟨Nat.le_of_ble_eq_true rfl, Nat.le_of_ble_eq_true rfl⟩ rfl dX2_isOut_1 (fun r9 u9 H locs hw9 hP hD hS => ?_)
  subst hw9
  have hP : va_P G.1 CL (PW G ph pd nr nc pL pG pB pk pa pt pm) _ := hP
  have hD : va_D A (PW G ph pd nr nc pL pG pB pk pa pt pm) := hD
  refine b_if_ne (tgt := 38) hx hb dX2_isOut_4 (by decide) (fun c4 => ?_) (fun c4 => ?_)
  · skip
    refine lv_iconst (v := nI 1) hx hb dX2_isOut_38 (by decide) ?_
    refine lv_goto (tgt := 43) hx hb dX2_isOut_39 (by decide) ?_
    subst hQ
    refine W.widen (k := 1) (n := 9) (Nat.le_of_ble_eq_true rfl) (Nat.le_of_ble_eq_true rfl) ?_
    exact ret_i hx hb hr hlk () (bI_1 (by first | (simp [otN, c4]; done) | (simp only [otN, c4, c28, c35, decide_eq_true c12, decide_eq_true c20]; rfl))) hP hD hS rfl dX2_isOut_43
  · skip
    refine lv_aload_n hx hb dX2_isOut_7 rfl (lv_at hl 0 rfl) ?_
    refine va_get (D := G.1) (ci := 1) (v := .int (nI nr)) (C := RX2) (T := TX2) (N := 14) hx hb hts in_X2 hown hK hP 0 rfl rfl 0 (by decide) (hts _ q141) (fun _ h9 => h9) rfl dX2_isOut_8 ?_
    refine lv_iconst (v := nI 3) hx hb dX2_isOut_11 (by decide) ?_
    refine n_cmp_ne (tgt := 42) hx hb dX2_isOut_12 (by decide) (by omega) (by omega) (fun c12 => ?_) (fun c12 => ?_)
    · skip
      refine lv_iconst (v := nI 0) hx hb dX2_isOut_42 (by decide) ?_
      subst hQ
      refine W.widen (k := 1) (n := 9) (Nat.le_of_ble_eq_true rfl) (Nat.le_of_ble_eq_true rfl) ?_
      exact ret_i hx hb hr hlk () (bI_0 (by first | (simp only [otN, c4, c28, c35, Bool.and_false, Bool.or_false]; done) | (simp only [otN, c4, c28, Bool.and_false, Bool.false_and, Bool.or_false]; done) | (simp [otN, c4, c20]; done) | (simp [otN, c4, c12]; done))) hP hD hS rfl dX2_isOut_43
    · skip
      refine lv_aload_n hx hb dX2_isOut_15 rfl (lv_at hl 0 rfl) ?_
      refine va_get (D := G.1) (ci := 1) (v := .int (nI nc)) (C := RX2) (T := TX2) (N := 14) hx hb hts in_X2 hown hK hP 0 rfl rfl 1 (by decide) (hts _ q143) (fun _ h9 => h9) rfl dX2_isOut_16 ?_
      refine lv_iconst (v := nI 3) hx hb dX2_isOut_19 (by decide) ?_
      refine n_cmp_ne (tgt := 42) hx hb dX2_isOut_20 (by decide) (by omega) (by omega) (fun c20 => ?_) (fun c20 => ?_)
      · skip
        refine lv_iconst (v := nI 0) hx hb dX2_isOut_42 (by decide) ?_
        subst hQ
        refine W.widen (k := 1) (n := 9) (Nat.le_of_ble_eq_true rfl) (Nat.le_of_ble_eq_true rfl) ?_
        exact ret_i hx hb hr hlk () (bI_0 (by first | (simp only [otN, c4, c28, c35, Bool.and_false, Bool.or_false]; done) | (simp only [otN, c4, c28, Bool.and_false, Bool.false_and, Bool.or_false]; done) | (simp [otN, c4, c20]; done) | (simp [otN, c4, c12]; done))) hP hD hS rfl dX2_isOut_43
      · skip
        refine lv_aload_n hx hb dX2_isOut_23 rfl (lv_at hl 0 rfl) ?_
        refine lv_iconst (v := nI 1) hx hb dX2_isOut_24 (by decide) ?_
        refine callVi (As := [.int (nI 1)]) (rest := []) (wc := (PW G ph pd nr nc pL pG pB pk pa pt pm)) (wr := ([] : va_W)) ⟨hx, hb, hml, hown, hts⟩ (m_X2_hasParity l G ph pd nr nc pL pG pB pk pa pt pm 1 (by first | assumption | omega) (by first | assumption | omega) (by first | assumption | omega) (by first | assumption | omega)) (cwV 1 hts (lw_V q481 q482 q483 q89 q484) rfl rfl rfl (by decide +kernel) ⟨Nat.le_of_ble_eq_true rfl, Nat.le_of_ble_eq_true rfl⟩) hK hZ hA hP hD hS [0, 1, 2, 3, 4, 5] [] rfl rfl (by decide) (by decide) (by decide) 0 1 rfl rfl rfl hl.1 (Nat.le_of_ble_eq_true rfl) ⟨Nat.le_of_ble_eq_true rfl, Nat.le_of_ble_eq_true rfl⟩ rfl dX2_isOut_25 (fun r9 u9 H locs hw9 hP hD hS => ?_)
        subst hw9
        have hP : va_P G.1 CL (PW G ph pd nr nc pL pG pB pk pa pt pm) _ := hP
        have hD : va_D A (PW G ph pd nr nc pL pG pB pk pa pt pm) := hD
        refine b_if_eq (tgt := 42) hx hb dX2_isOut_28 (by decide) (fun c28 => ?_) (fun c28 => ?_)
        · skip
          refine lv_iconst (v := nI 0) hx hb dX2_isOut_42 (by decide) ?_
          subst hQ
          refine W.widen (k := 1) (n := 9) (Nat.le_of_ble_eq_true rfl) (Nat.le_of_ble_eq_true rfl) ?_
          exact ret_i hx hb hr hlk () (bI_0 (by first | (simp only [otN, c4, c28, c35, Bool.and_false, Bool.or_false]; done) | (simp only [otN, c4, c28, Bool.and_false, Bool.false_and, Bool.or_false]; done) | (simp [otN, c4, c20]; done) | (simp [otN, c4, c12]; done))) hP hD hS rfl dX2_isOut_43
        · skip
          refine lv_aload_n hx hb dX2_isOut_31 rfl (lv_at hl 0 rfl) ?_
          refine callVi (As := []) (rest := []) (wc := (PW G ph pd nr nc pL pG pB pk pa pt pm)) (wr := ([] : va_W)) ⟨hx, hb, hml, hown, hts⟩ (m_X2_isOdd l G ph pd nr nc pL pG pB pk pa pt pm (by first | assumption | omega) (by first | assumption | omega) (by first | assumption | omega) (hp1 c28)) (cwV 0 hts (lw_V q493 q494 q495 q89 q496) rfl rfl rfl (by decide +kernel) ⟨Nat.le_of_ble_eq_true rfl, Nat.le_of_ble_eq_true rfl⟩) hK hZ hA hP hD hS [0, 1, 2, 3, 4, 5] [] rfl rfl (by decide) (by decide) (by decide) 0 1 rfl rfl rfl hl.1 (Nat.le_of_ble_eq_true rfl) ⟨Nat.le_of_ble_eq_true rfl, Nat.le_of_ble_eq_true rfl⟩ rfl dX2_isOut_32 (fun r9 u9 H locs hw9 hP hD hS => ?_)
          refine W.widen (k := 1) (n := 9) (Nat.le_refl _) (Nat.le_refl _) ?_
          subst hw9
          have hP : va_P G.1 CL (PW G ph pd nr nc pL pG pB pk pa pt pm) _ := hP
          have hD : va_D A (PW G ph pd nr nc pL pG pB pk pa pt pm) := hD
          refine b_if_eq (tgt := 42) hx hb dX2_isOut_35 (by decide) (fun c35 => ?_) (fun c35 => ?_)
          · skip
            refine lv_iconst (v := nI 0) hx hb dX2_isOut_42 (by decide) ?_
            subst hQ
            exact ret_i hx hb hr hlk () (bI_0 (by first | (simp only [otN, c4, c28, c35, Bool.and_false, Bool.or_false]; done) | (simp only [otN, c4, c28, Bool.and_false, Bool.false_and, Bool.or_false]; done) | (simp [otN, c4, c20]; done) | (simp [otN, c4, c12]; done))) hP hD hS rfl dX2_isOut_43
          · skip
            refine lv_iconst (v := nI 1) hx hb dX2_isOut_38 (by decide) ?_
            refine lv_goto (tgt := 43) hx hb dX2_isOut_39 (by decide) ?_
            subst hQ
            exact ret_i hx hb hr hlk () (bI_1 (by first | (simp [otN, c4]; done) | (simp only [otN, c4, c28, c35, decide_eq_true c12, decide_eq_true c20]; rfl))) hP hD hS rfl dX2_isOut_43
set_option maxHeartbeats 4000000 in
set_option maxRecDepth 100000 in
theorem m_X2_isWell (l : Launch) (G : GG) (ph : Nat) (pd : Nat → Nat) (nr : Nat) (nc : Nat) (pL : Nat → Nat) (pG : Nat → Nat) (pB : Nat → Bool) (pk : Nat → Int32) (pa : Nat → Nat) (pt : Nat → Nat) (pm : Nat) (hd : 2 ≤ nr ∧ nr ≤ 3 ∧ 2 ≤ nc ∧ nc ≤ 3) (hL : ∀ i, pL i < 65536) (hG : ∀ i, pG i < 65536) (hA0 : ∀ i, pa i < 65536) (hT0 : ∀ i, pt i < 100) (hp1 : pry pL pG (nr * nc) 1 = true → ∀ q, q < nr * nc → hoN (nr * nc) pL pG q < nr * nc) (hp0 : pry pL pG (nr * nc) 0 = true → ∀ q, q < nr * nc → hoN (nr * nc) pL pG q < nr * nc) : MM l G yX2_isWell cX2_isWell 3 (some .boolean) ⟨9, 2, 18, 197⟩ [.ref ph] (PW G ph pd nr nc pL pG pB pk pa pt pm) (Qi_ G (fun (r : Int32) (u : (Nat → Nat) × (Nat → Nat) × (Nat)) => (r = bI ((decide (awN (fun d => rch nr nc pB pG d pL) = 4) || !otN nr nc pL pG) && (!pry pL pG (nr * nc) 0 || (odN (hoN (nr * nc) pL pG) (nr * nc) == iv (hoN (nr * nc) pL pG) (nr * nc))))) ∧ ((∀ i, u.1 i < 65536) ∧ ∀ i, u.2.1 i < 100)) (fun (u : (Nat → Nat) × (Nat → Nat) × (Nat)) => (PW G ph pd nr nc pL pG pB pk u.1 u.2.1 u.2.2))) := by
  refine MM.of (by decide) (Nat.le_of_ble_eq_true rfl) ?_
  intro p e s m args below meth cd A C hini hA hK hZ hP hD ls hl
  generalize hQ : MQ below ((Qi_ G (fun (r : Int32) (u : (Nat → Nat) × (Nat → Nat) × (Nat)) => (r = bI ((decide (awN (fun d => rch nr nc pB pG d pL) = 4) || !otN nr nc pL pG) && (!pry pL pG (nr * nc) 0 || (odN (hoN (nr * nc) pL pG) (nr * nc) == iv (hoN (nr * nc) pL pG) (nr * nc))))) ∧ ((∀ i, u.1 i < 65536) ∧ ∀ i, u.2.1 i < 100)) (fun (u : (Nat → Nat) × (Nat → Nat) × (Nat)) => (PW G ph pd nr nc pL pG pB pk u.1 u.2.1 u.2.2))) A) args s (⟨9, 2, 18, 197⟩ : Room).cells (⟨9, 2, 18, 197⟩ : Room).slots A = Q
  obtain ⟨hx, hb, hr, hts, hown, hlk, hml⟩ := C
  have hown : s.vm.findClass RX2 = some m.cls := hown
  have hS : va_S A s.heap s.heap [] := va_S.rf
  have hl : lv_has ls 3 [(0, .ref ph)] := hl
  have hmu := dm_mul hd
  refine lv_aload_n hx hb dX2_isWell_0 rfl (lv_at hl 0 rfl) ?_
  refine callVi (As := []) (rest := []) (wc := (PW G ph pd nr nc pL pG pB pk pa pt pm)) (wr := ([] : va_W)) ⟨hx, hb, hml, hown, hts⟩ (m_X2_away l G ph pd nr nc pL pG pB pk pa pt pm (by first | assumption | omega) (by first | assumption | omega) (by first | assumption | omega) (by first | assumption | omega) (by first | assumption | omega)) (cwV 0 hts (lw_V q1009 q1010 q1011 q89 q1012) rfl rfl rfl (by decide +kernel) ⟨Nat.le_of_ble_eq_true rfl, Nat.le_of_ble_eq_true rfl⟩) hK hZ hA hP hD hS [0, 1, 2, 3, 4, 5] [] rfl rfl (by decide) (by decide) (by decide) 0 1 rfl rfl rfl hl.1 (Nat.le_of_ble_eq_true rfl) ⟨Nat.le_of_ble_eq_true rfl, Nat.le_of_ble_eq_true rfl⟩ rfl dX2_isWell_1 (fun r9 u9 H locs hw9 hP hD hS => ?_)
  obtain ⟨a1_1, t1_1, n1_1⟩ := u9
  obtain ⟨hr9, hw1⟩ := hw9
  subst hr9
  have hw1 : (∀ i, a1_1 i < 65536) ∧ ∀ i, t1_1 i < 100 := hw1
  have hP : va_P G.1 CL (PW G ph pd nr nc pL pG pB pk a1_1 t1_1 n1_1) _ := hP
  have hD : va_D A (PW G ph pd nr nc pL pG pB pk a1_1 t1_1 n1_1) := hD
  refine lv_istore_n (lv' := [(1, .int (oN 4 (awN (fun d => rch nr nc pB pG d pL)))), (0, .ref ph)]) hx hb dX2_isWell_4 rfl hl (by decide) rfl (fun ls hl => ?_)
  refine lv_iload_n hx hb dX2_isWell_5 rfl (lv_at hl 0 rfl) ?_
  refine lv_aload_n hx hb dX2_isWell_6 rfl (lv_at hl 1 rfl) ?_
  refine callVi (As := []) (rest := [.int (oN 4 (awN (fun d => rch nr nc pB pG d pL)))]) (wc := (PW G ph pd nr nc pL pG pB pk a1_1 t1_1 n1_1)) (wr := ([] : va_W)) ⟨hx, hb, hml, hown, hts⟩ (m_X2_awayAgain l G ph pd nr nc pL pG pB pk a1_1 t1_1 n1_1 (by first | assumption | omega) (by first | assumption | omega) (by first | assumption | omega)) (cwV 0 hts (lw_V q1047 q1048 q1049 q89 q1050) rfl rfl rfl (by decide +kernel) ⟨Nat.le_of_ble_eq_true rfl, Nat.le_of_ble_eq_true rfl⟩) hK hZ hA hP hD hS [0, 1, 2, 3, 4, 5] [] rfl rfl (by decide) (by decide) (by decide) 0 1 rfl rfl rfl hl.1 (Nat.le_of_ble_eq_true rfl) ⟨Nat.le_of_ble_eq_true rfl, Nat.le_of_ble_eq_true rfl⟩ rfl dX2_isWell_7 (fun r9 u9 H locs hw9 hP hD hS => ?_)
  subst hw9
  have hP : va_P G.1 CL (PW G ph pd nr nc pL pG pB pk a1_1 t1_1 n1_1) _ := hP
  have hD : va_D A (PW G ph pd nr nc pL pG pB pk a1_1 t1_1 n1_1) := hD
  refine lv_icmp_ne (tgt := 29) hx hb dX2_isWell_10 (by decide) (fun c10 => ?_) (fun c10 => ?_)
  · skip
    refine lv_iconst (v := nI 0) hx hb dX2_isWell_29 (by decide) ?_
    refine lv_istore_n (lv' := [(2, .int (nI 0)), (1, .int (oN 4 (awN (fun d => rch nr nc pB pG d pL)))), (0, .ref ph)]) hx hb dX2_isWell_30 rfl hl (by decide) rfl (fun ls hl => ?_)
    refine lv_iload_n hx hb dX2_isWell_31 rfl (lv_at hl 0 rfl) ?_
    refine n_if_eq (tgt := 65) hx hb dX2_isWell_32 (by decide) (by decide) (fun c32 => ?_) (fun c32 => ?_)
    rotate_left
    · exact absurd c32 (by decide)
    refine lv_iconst (v := nI 0) hx hb dX2_isWell_65 (by decide) ?_
    subst hQ
    refine W.widen (k := 2) (n := 18) (Nat.le_of_ble_eq_true rfl) (Nat.le_of_ble_eq_true rfl) ?_
    exact ret_i hx hb hr hlk (⟨a1_1, t1_1, n1_1⟩) ⟨(bI_0 (by first | exact absurd rfl c10 | exact absurd c39 (by decide) | (simp only [c22, decide_eq_false h4]; rfl) | (simp only [c47, Bool.not_true, Bool.false_or]; rw [show (odN (hoN (nr * nc) pL pG) (nr * nc) == iv (hoN (nr * nc) pL pG) (nr * nc)) = false from beq_eq_false_iff_ne.mpr (fun z => c58 (by rw [z])), Bool.and_false]))), hw1⟩ hP hD hS rfl dX2_isWell_66
  · skip
    refine lv_iload_n hx hb dX2_isWell_13 rfl (lv_at hl 0 rfl) ?_
    refine lv_iconst (v := (-1)) hx hb dX2_isWell_14 (by decide) ?_
    refine lv_icmp_eq (tgt := 25) hx hb dX2_isWell_15 (by decide) (fun c15 => ?_) (fun c15 => ?_)
    · skip
      refine lv_iconst (v := nI 1) hx hb dX2_isWell_25 (by decide) ?_
      refine lv_goto (tgt := 30) hx hb dX2_isWell_26 (by decide) ?_
      refine lv_istore_n (lv' := [(2, .int (nI 1)), (1, .int (oN 4 (awN (fun d => rch nr nc pB pG d pL)))), (0, .ref ph)]) hx hb dX2_isWell_30 rfl hl (by decide) rfl (fun ls hl => ?_)
      refine lv_iload_n hx hb dX2_isWell_31 rfl (lv_at hl 0 rfl) ?_
      refine n_if_eq (tgt := 65) hx hb dX2_isWell_32 (by decide) (by decide) (fun c32 => ?_) (fun c32 => ?_)
      · exact absurd c32 (by decide)
      refine lv_aload_n hx hb dX2_isWell_35 rfl (lv_at hl 2 rfl) ?_
      refine callVi (As := []) (rest := []) (wc := (PW G ph pd nr nc pL pG pB pk a1_1 t1_1 n1_1)) (wr := ([] : va_W)) ⟨hx, hb, hml, hown, hts⟩ (m_X2_areTurnsRight l G ph pd nr nc pL pG pB pk a1_1 t1_1 n1_1 (by first | assumption | omega)) (cwV 0 hts (lw_V q1061 q1062 q1063 q89 q1064) rfl rfl rfl (by decide +kernel) ⟨Nat.le_of_ble_eq_true rfl, Nat.le_of_ble_eq_true rfl⟩) hK hZ hA hP hD hS [0, 1, 2, 3, 4, 5] [] rfl rfl (by decide) (by decide) (by decide) 0 1 rfl rfl rfl hl.1 (Nat.le_of_ble_eq_true rfl) ⟨Nat.le_of_ble_eq_true rfl, Nat.le_of_ble_eq_true rfl⟩ rfl dX2_isWell_36 (fun r9 u9 H locs hw9 hP hD hS => ?_)
      subst hw9
      have hP : va_P G.1 CL (PW G ph pd nr nc pL pG pB pk a1_1 t1_1 n1_1) _ := hP
      have hD : va_D A (PW G ph pd nr nc pL pG pB pk a1_1 t1_1 n1_1) := hD
      refine b_if_eq (tgt := 65) hx hb dX2_isWell_39 (by decide) (fun c39 => ?_) (fun c39 => ?_)
      · exact absurd c39 (by decide)
      refine lv_aload_n hx hb dX2_isWell_42 rfl (lv_at hl 2 rfl) ?_
      refine lv_iconst (v := nI 0) hx hb dX2_isWell_43 (by decide) ?_
      refine callVi (As := [.int (nI 0)]) (rest := []) (wc := (PW G ph pd nr nc pL pG pB pk a1_1 t1_1 n1_1)) (wr := ([] : va_W)) ⟨hx, hb, hml, hown, hts⟩ (m_X2_hasParity l G ph pd nr nc pL pG pB pk a1_1 t1_1 n1_1 0 (by first | assumption | omega) (by first | assumption | omega) (by first | assumption | omega) (by first | assumption | omega)) (cwV 1 hts (lw_V q481 q482 q483 q89 q484) rfl rfl rfl (by decide +kernel) ⟨Nat.le_of_ble_eq_true rfl, Nat.le_of_ble_eq_true rfl⟩) hK hZ hA hP hD hS [0, 1, 2, 3, 4, 5] [] rfl rfl (by decide) (by decide) (by decide) 0 1 rfl rfl rfl hl.1 (Nat.le_of_ble_eq_true rfl) ⟨Nat.le_of_ble_eq_true rfl, Nat.le_of_ble_eq_true rfl⟩ rfl dX2_isWell_44 (fun r9 u9 H locs hw9 hP hD hS => ?_)
      subst hw9
      have hP : va_P G.1 CL (PW G ph pd nr nc pL pG pB pk a1_1 t1_1 n1_1) _ := hP
      have hD : va_D A (PW G ph pd nr nc pL pG pB pk a1_1 t1_1 n1_1) := hD
      refine b_if_eq (tgt := 61) hx hb dX2_isWell_47 (by decide) (fun c47 => ?_) (fun c47 => ?_)
      · skip
        refine lv_iconst (v := nI 1) hx hb dX2_isWell_61 (by decide) ?_
        refine lv_goto (tgt := 66) hx hb dX2_isWell_62 (by decide) ?_
        subst hQ
        refine W.widen (k := 2) (n := 18) (Nat.le_of_ble_eq_true rfl) (Nat.le_of_ble_eq_true rfl) ?_
        exact ret_i hx hb hr hlk (⟨a1_1, t1_1, n1_1⟩) ⟨(bI_1 (by first | (simp only [c22, c47, decide_eq_false h4]; rfl) | (simp only [c22, c47, decide_eq_false h4, Bool.not_true, Bool.false_or, Bool.not_false, Bool.true_and]; exact (beq_iff_eq.mpr (bI_inj.mp c58))) | (rw [decide_eq_true (show awN (fun d => rch nr nc pB pG d pL) = 4 by have h := c15; rw [oN_m1 (by decide)] at h; have := awN_le (fun d => rch nr nc pB pG d pL); omega)]; simp only [c47, Bool.true_or, Bool.not_false, Bool.and_self]; done) | (rw [decide_eq_true (show awN (fun d => rch nr nc pB pG d pL) = 4 by have h := c15; rw [oN_m1 (by decide)] at h; have := awN_le (fun d => rch nr nc pB pG d pL); omega)]; simp only [c47, Bool.true_or, Bool.not_true, Bool.false_or, Bool.true_and]; exact (beq_iff_eq.mpr (bI_inj.mp c58))))), hw1⟩ hP hD hS rfl dX2_isWell_66
      · skip
        refine lv_aload_n hx hb dX2_isWell_50 rfl (lv_at hl 2 rfl) ?_
        refine callVi (As := []) (rest := []) (wc := (PW G ph pd nr nc pL pG pB pk a1_1 t1_1 n1_1)) (wr := ([] : va_W)) ⟨hx, hb, hml, hown, hts⟩ (m_X2_isOdd l G ph pd nr nc pL pG pB pk a1_1 t1_1 n1_1 (by first | assumption | omega) (by first | assumption | omega) (by first | assumption | omega) (hp0 c47)) (cwV 0 hts (lw_V q493 q494 q495 q89 q496) rfl rfl rfl (by decide +kernel) ⟨Nat.le_of_ble_eq_true rfl, Nat.le_of_ble_eq_true rfl⟩) hK hZ hA hP hD hS [0, 1, 2, 3, 4, 5] [] rfl rfl (by decide) (by decide) (by decide) 0 1 rfl rfl rfl hl.1 (Nat.le_of_ble_eq_true rfl) ⟨Nat.le_of_ble_eq_true rfl, Nat.le_of_ble_eq_true rfl⟩ rfl dX2_isWell_51 (fun r9 u9 H locs hw9 hP hD hS => ?_)
        refine W.widen (k := 1) (n := 9) (Nat.le_refl _) (Nat.le_refl _) ?_
        subst hw9
        have hP : va_P G.1 CL (PW G ph pd nr nc pL pG pB pk a1_1 t1_1 n1_1) _ := hP
        have hD : va_D A (PW G ph pd nr nc pL pG pB pk a1_1 t1_1 n1_1) := hD
        refine lv_aload_n hx hb dX2_isWell_54 rfl (lv_at hl 2 rfl) ?_
        refine callVi (As := []) (rest := [.int (bI (odN (hoN (nr * nc) pL pG) (nr * nc)))]) (wc := (PW G ph pd nr nc pL pG pB pk a1_1 t1_1 n1_1)) (wr := ([] : va_W)) ⟨hx, hb, hml, hown, hts⟩ (m_X2_isOddAgain l G ph pd nr nc pL pG pB pk a1_1 t1_1 n1_1 (by first | assumption | omega) (by first | assumption | omega) (by first | assumption | omega) (hp0 c47)) (cwV 0 hts (lw_V q1085 q1086 q1087 q89 q1088) rfl rfl rfl (by decide +kernel) ⟨Nat.le_of_ble_eq_true rfl, Nat.le_of_ble_eq_true rfl⟩) hK hZ hA hP hD hS [0, 1, 2, 3, 4, 5] [] rfl rfl (by decide) (by decide) (by decide) 0 1 rfl rfl rfl hl.1 (Nat.le_of_ble_eq_true rfl) ⟨Nat.le_of_ble_eq_true rfl, Nat.le_of_ble_eq_true rfl⟩ rfl dX2_isWell_55 (fun r9 u9 H locs hw9 hP hD hS => ?_)
        subst hw9
        have hP : va_P G.1 CL (PW G ph pd nr nc pL pG pB pk a1_1 t1_1 n1_1) _ := hP
        have hD : va_D A (PW G ph pd nr nc pL pG pB pk a1_1 t1_1 n1_1) := hD
        refine lv_icmp_ne (tgt := 65) hx hb dX2_isWell_58 (by decide) (fun c58 => ?_) (fun c58 => ?_)
        · skip
          refine lv_iconst (v := nI 0) hx hb dX2_isWell_65 (by decide) ?_
          subst hQ
          refine W.widen (k := 2) (n := 18) (Nat.le_of_ble_eq_true rfl) (Nat.le_of_ble_eq_true rfl) ?_
          exact ret_i hx hb hr hlk (⟨a1_1, t1_1, n1_1⟩) ⟨(bI_0 (by first | exact absurd rfl c10 | exact absurd c39 (by decide) | (simp only [c22, decide_eq_false h4]; rfl) | (simp only [c47, Bool.not_true, Bool.false_or]; rw [show (odN (hoN (nr * nc) pL pG) (nr * nc) == iv (hoN (nr * nc) pL pG) (nr * nc)) = false from beq_eq_false_iff_ne.mpr (fun z => c58 (by rw [z])), Bool.and_false]))), hw1⟩ hP hD hS rfl dX2_isWell_66
        · skip
          refine lv_iconst (v := nI 1) hx hb dX2_isWell_61 (by decide) ?_
          refine lv_goto (tgt := 66) hx hb dX2_isWell_62 (by decide) ?_
          subst hQ
          refine W.widen (k := 2) (n := 18) (Nat.le_of_ble_eq_true rfl) (Nat.le_of_ble_eq_true rfl) ?_
          exact ret_i hx hb hr hlk (⟨a1_1, t1_1, n1_1⟩) ⟨(bI_1 (by first | (simp only [c22, c47, decide_eq_false h4]; rfl) | (simp only [c22, c47, decide_eq_false h4, Bool.not_true, Bool.false_or, Bool.not_false, Bool.true_and]; exact (beq_iff_eq.mpr (bI_inj.mp c58))) | (rw [decide_eq_true (show awN (fun d => rch nr nc pB pG d pL) = 4 by have h := c15; rw [oN_m1 (by decide)] at h; have := awN_le (fun d => rch nr nc pB pG d pL); omega)]; simp only [c47, Bool.true_or, Bool.not_false, Bool.and_self]; done) | (rw [decide_eq_true (show awN (fun d => rch nr nc pB pG d pL) = 4 by have h := c15; rw [oN_m1 (by decide)] at h; have := awN_le (fun d => rch nr nc pB pG d pL); omega)]; simp only [c47, Bool.true_or, Bool.not_true, Bool.false_or, Bool.true_and]; exact (beq_iff_eq.mpr (bI_inj.mp c58))))), hw1⟩ hP hD hS rfl dX2_isWell_66
    · skip
      have h4 : ¬ awN (fun d => rch nr nc pB pG d pL) = 4 := fun z => c15 (by rw [z]; exact oN_ge (by decide))
      refine lv_aload_n hx hb dX2_isWell_18 rfl (lv_at hl 1 rfl) ?_
      refine callVi (As := []) (rest := []) (wc := (PW G ph pd nr nc pL pG pB pk a1_1 t1_1 n1_1)) (wr := ([] : va_W)) ⟨hx, hb, hml, hown, hts⟩ (m_X2_isOut l G ph pd nr nc pL pG pB pk a1_1 t1_1 n1_1 (by first | assumption | omega) (by first | assumption | omega) (by first | assumption | omega) (by first | assumption | omega)) (cwV 0 hts (lw_V q1060 q467 q468 q89 q469) rfl rfl rfl (by decide +kernel) ⟨Nat.le_of_ble_eq_true rfl, Nat.le_of_ble_eq_true rfl⟩) hK hZ hA hP hD hS [0, 1, 2, 3, 4, 5] [] rfl rfl (by decide) (by decide) (by decide) 0 1 rfl rfl rfl hl.1 (Nat.le_of_ble_eq_true rfl) ⟨Nat.le_of_ble_eq_true rfl, Nat.le_of_ble_eq_true rfl⟩ rfl dX2_isWell_19 (fun r9 u9 H locs hw9 hP hD hS => ?_)
      refine W.widen (k := 1) (n := 9) (Nat.le_refl _) (Nat.le_refl _) ?_
      subst hw9
      have hP : va_P G.1 CL (PW G ph pd nr nc pL pG pB pk a1_1 t1_1 n1_1) _ := hP
      have hD : va_D A (PW G ph pd nr nc pL pG pB pk a1_1 t1_1 n1_1) := hD
      refine b_if_ne (tgt := 29) hx hb dX2_isWell_22 (by decide) (fun c22 => ?_) (fun c22 => ?_)
      · skip
        refine lv_iconst (v := nI 0) hx hb dX2_isWell_29 (by decide) ?_
        refine lv_istore_n (lv' := [(2, .int (nI 0)), (1, .int (oN 4 (awN (fun d => rch nr nc pB pG d pL)))), (0, .ref ph)]) hx hb dX2_isWell_30 rfl hl (by decide) rfl (fun ls hl => ?_)
        refine lv_iload_n hx hb dX2_isWell_31 rfl (lv_at hl 0 rfl) ?_
        refine n_if_eq (tgt := 65) hx hb dX2_isWell_32 (by decide) (by decide) (fun c32 => ?_) (fun c32 => ?_)
        rotate_left
        · exact absurd c32 (by decide)
        refine lv_iconst (v := nI 0) hx hb dX2_isWell_65 (by decide) ?_
        subst hQ
        refine W.widen (k := 2) (n := 18) (Nat.le_of_ble_eq_true rfl) (Nat.le_of_ble_eq_true rfl) ?_
        exact ret_i hx hb hr hlk (⟨a1_1, t1_1, n1_1⟩) ⟨(bI_0 (by first | exact absurd rfl c10 | exact absurd c39 (by decide) | (simp only [c22, decide_eq_false h4]; rfl) | (simp only [c47, Bool.not_true, Bool.false_or]; rw [show (odN (hoN (nr * nc) pL pG) (nr * nc) == iv (hoN (nr * nc) pL pG) (nr * nc)) = false from beq_eq_false_iff_ne.mpr (fun z => c58 (by rw [z])), Bool.and_false]))), hw1⟩ hP hD hS rfl dX2_isWell_66
      · skip
        refine lv_iconst (v := nI 1) hx hb dX2_isWell_25 (by decide) ?_
        refine lv_goto (tgt := 30) hx hb dX2_isWell_26 (by decide) ?_
        refine lv_istore_n (lv' := [(2, .int (nI 1)), (1, .int (oN 4 (awN (fun d => rch nr nc pB pG d pL)))), (0, .ref ph)]) hx hb dX2_isWell_30 rfl hl (by decide) rfl (fun ls hl => ?_)
        refine lv_iload_n hx hb dX2_isWell_31 rfl (lv_at hl 0 rfl) ?_
        refine n_if_eq (tgt := 65) hx hb dX2_isWell_32 (by decide) (by decide) (fun c32 => ?_) (fun c32 => ?_)
        · exact absurd c32 (by decide)
        refine lv_aload_n hx hb dX2_isWell_35 rfl (lv_at hl 2 rfl) ?_
        refine callVi (As := []) (rest := []) (wc := (PW G ph pd nr nc pL pG pB pk a1_1 t1_1 n1_1)) (wr := ([] : va_W)) ⟨hx, hb, hml, hown, hts⟩ (m_X2_areTurnsRight l G ph pd nr nc pL pG pB pk a1_1 t1_1 n1_1 (by first | assumption | omega)) (cwV 0 hts (lw_V q1061 q1062 q1063 q89 q1064) rfl rfl rfl (by decide +kernel) ⟨Nat.le_of_ble_eq_true rfl, Nat.le_of_ble_eq_true rfl⟩) hK hZ hA hP hD hS [0, 1, 2, 3, 4, 5] [] rfl rfl (by decide) (by decide) (by decide) 0 1 rfl rfl rfl hl.1 (Nat.le_of_ble_eq_true rfl) ⟨Nat.le_of_ble_eq_true rfl, Nat.le_of_ble_eq_true rfl⟩ rfl dX2_isWell_36 (fun r9 u9 H locs hw9 hP hD hS => ?_)
        subst hw9
        have hP : va_P G.1 CL (PW G ph pd nr nc pL pG pB pk a1_1 t1_1 n1_1) _ := hP
        have hD : va_D A (PW G ph pd nr nc pL pG pB pk a1_1 t1_1 n1_1) := hD
        refine b_if_eq (tgt := 65) hx hb dX2_isWell_39 (by decide) (fun c39 => ?_) (fun c39 => ?_)
        · exact absurd c39 (by decide)
        refine lv_aload_n hx hb dX2_isWell_42 rfl (lv_at hl 2 rfl) ?_
        refine lv_iconst (v := nI 0) hx hb dX2_isWell_43 (by decide) ?_
        refine callVi (As := [.int (nI 0)]) (rest := []) (wc := (PW G ph pd nr nc pL pG pB pk a1_1 t1_1 n1_1)) (wr := ([] : va_W)) ⟨hx, hb, hml, hown, hts⟩ (m_X2_hasParity l G ph pd nr nc pL pG pB pk a1_1 t1_1 n1_1 0 (by first | assumption | omega) (by first | assumption | omega) (by first | assumption | omega) (by first | assumption | omega)) (cwV 1 hts (lw_V q481 q482 q483 q89 q484) rfl rfl rfl (by decide +kernel) ⟨Nat.le_of_ble_eq_true rfl, Nat.le_of_ble_eq_true rfl⟩) hK hZ hA hP hD hS [0, 1, 2, 3, 4, 5] [] rfl rfl (by decide) (by decide) (by decide) 0 1 rfl rfl rfl hl.1 (Nat.le_of_ble_eq_true rfl) ⟨Nat.le_of_ble_eq_true rfl, Nat.le_of_ble_eq_true rfl⟩ rfl dX2_isWell_44 (fun r9 u9 H locs hw9 hP hD hS => ?_)
        subst hw9
        have hP : va_P G.1 CL (PW G ph pd nr nc pL pG pB pk a1_1 t1_1 n1_1) _ := hP
        have hD : va_D A (PW G ph pd nr nc pL pG pB pk a1_1 t1_1 n1_1) := hD
        refine b_if_eq (tgt := 61) hx hb dX2_isWell_47 (by decide) (fun c47 => ?_) (fun c47 => ?_)
        · skip
          refine lv_iconst (v := nI 1) hx hb dX2_isWell_61 (by decide) ?_
          refine lv_goto (tgt := 66) hx hb dX2_isWell_62 (by decide) ?_
          subst hQ
          refine W.widen (k := 2) (n := 18) (Nat.le_of_ble_eq_true rfl) (Nat.le_of_ble_eq_true rfl) ?_
          exact ret_i hx hb hr hlk (⟨a1_1, t1_1, n1_1⟩) ⟨(bI_1 (by first | (simp only [c22, c47, decide_eq_false h4]; rfl) | (simp only [c22, c47, decide_eq_false h4, Bool.not_true, Bool.false_or, Bool.not_false, Bool.true_and]; exact (beq_iff_eq.mpr (bI_inj.mp c58))) | (rw [decide_eq_true (show awN (fun d => rch nr nc pB pG d pL) = 4 by have h := c15; rw [oN_m1 (by decide)] at h; have := awN_le (fun d => rch nr nc pB pG d pL); omega)]; simp only [c47, Bool.true_or, Bool.not_false, Bool.and_self]; done) | (rw [decide_eq_true (show awN (fun d => rch nr nc pB pG d pL) = 4 by have h := c15; rw [oN_m1 (by decide)] at h; have := awN_le (fun d => rch nr nc pB pG d pL); omega)]; simp only [c47, Bool.true_or, Bool.not_true, Bool.false_or, Bool.true_and]; exact (beq_iff_eq.mpr (bI_inj.mp c58))))), hw1⟩ hP hD hS rfl dX2_isWell_66
        · skip
          refine lv_aload_n hx hb dX2_isWell_50 rfl (lv_at hl 2 rfl) ?_
          refine callVi (As := []) (rest := []) (wc := (PW G ph pd nr nc pL pG pB pk a1_1 t1_1 n1_1)) (wr := ([] : va_W)) ⟨hx, hb, hml, hown, hts⟩ (m_X2_isOdd l G ph pd nr nc pL pG pB pk a1_1 t1_1 n1_1 (by first | assumption | omega) (by first | assumption | omega) (by first | assumption | omega) (hp0 c47)) (cwV 0 hts (lw_V q493 q494 q495 q89 q496) rfl rfl rfl (by decide +kernel) ⟨Nat.le_of_ble_eq_true rfl, Nat.le_of_ble_eq_true rfl⟩) hK hZ hA hP hD hS [0, 1, 2, 3, 4, 5] [] rfl rfl (by decide) (by decide) (by decide) 0 1 rfl rfl rfl hl.1 (Nat.le_of_ble_eq_true rfl) ⟨Nat.le_of_ble_eq_true rfl, Nat.le_of_ble_eq_true rfl⟩ rfl dX2_isWell_51 (fun r9 u9 H locs hw9 hP hD hS => ?_)
          refine W.widen (k := 2) (n := 18) (Nat.le_refl _) (Nat.le_refl _) ?_
          subst hw9
          have hP : va_P G.1 CL (PW G ph pd nr nc pL pG pB pk a1_1 t1_1 n1_1) _ := hP
          have hD : va_D A (PW G ph pd nr nc pL pG pB pk a1_1 t1_1 n1_1) := hD
          refine lv_aload_n hx hb dX2_isWell_54 rfl (lv_at hl 2 rfl) ?_
          refine callVi (As := []) (rest := [.int (bI (odN (hoN (nr * nc) pL pG) (nr * nc)))]) (wc := (PW G ph pd nr nc pL pG pB pk a1_1 t1_1 n1_1)) (wr := ([] : va_W)) ⟨hx, hb, hml, hown, hts⟩ (m_X2_isOddAgain l G ph pd nr nc pL pG pB pk a1_1 t1_1 n1_1 (by first | assumption | omega) (by first | assumption | omega) (by first | assumption | omega) (hp0 c47)) (cwV 0 hts (lw_V q1085 q1086 q1087 q89 q1088) rfl rfl rfl (by decide +kernel) ⟨Nat.le_of_ble_eq_true rfl, Nat.le_of_ble_eq_true rfl⟩) hK hZ hA hP hD hS [0, 1, 2, 3, 4, 5] [] rfl rfl (by decide) (by decide) (by decide) 0 1 rfl rfl rfl hl.1 (Nat.le_of_ble_eq_true rfl) ⟨Nat.le_of_ble_eq_true rfl, Nat.le_of_ble_eq_true rfl⟩ rfl dX2_isWell_55 (fun r9 u9 H locs hw9 hP hD hS => ?_)
          subst hw9
          have hP : va_P G.1 CL (PW G ph pd nr nc pL pG pB pk a1_1 t1_1 n1_1) _ := hP
          have hD : va_D A (PW G ph pd nr nc pL pG pB pk a1_1 t1_1 n1_1) := hD
          refine lv_icmp_ne (tgt := 65) hx hb dX2_isWell_58 (by decide) (fun c58 => ?_) (fun c58 => ?_)
          · skip
            refine lv_iconst (v := nI 0) hx hb dX2_isWell_65 (by decide) ?_
            subst hQ
            exact ret_i hx hb hr hlk (⟨a1_1, t1_1, n1_1⟩) ⟨(bI_0 (by first | exact absurd rfl c10 | exact absurd c39 (by decide) | (simp only [c22, decide_eq_false h4]; rfl) | (simp only [c47, Bool.not_true, Bool.false_or]; rw [show (odN (hoN (nr * nc) pL pG) (nr * nc) == iv (hoN (nr * nc) pL pG) (nr * nc)) = false from beq_eq_false_iff_ne.mpr (fun z => c58 (by rw [z])), Bool.and_false]))), hw1⟩ hP hD hS rfl dX2_isWell_66
          · skip
            refine lv_iconst (v := nI 1) hx hb dX2_isWell_61 (by decide) ?_
            refine lv_goto (tgt := 66) hx hb dX2_isWell_62 (by decide) ?_
            subst hQ
            exact ret_i hx hb hr hlk (⟨a1_1, t1_1, n1_1⟩) ⟨(bI_1 (by first | (simp only [c22, c47, decide_eq_false h4]; rfl) | (simp only [c22, c47, decide_eq_false h4, Bool.not_true, Bool.false_or, Bool.not_false, Bool.true_and]; exact (beq_iff_eq.mpr (bI_inj.mp c58))) | (rw [decide_eq_true (show awN (fun d => rch nr nc pB pG d pL) = 4 by have h := c15; rw [oN_m1 (by decide)] at h; have := awN_le (fun d => rch nr nc pB pG d pL); omega)]; simp only [c47, Bool.true_or, Bool.not_false, Bool.and_self]; done) | (rw [decide_eq_true (show awN (fun d => rch nr nc pB pG d pL) = 4 by have h := c15; rw [oN_m1 (by decide)] at h; have := awN_le (fun d => rch nr nc pB pG d pL); omega)]; simp only [c47, Bool.true_or, Bool.not_true, Bool.false_or, Bool.true_and]; exact (beq_iff_eq.mpr (bI_inj.mp c58))))), hw1⟩ hP hD hS rfl dX2_isWell_66
set_option maxHeartbeats 4000000 in
set_option maxRecDepth 100000 in
theorem m_X2_take_2 (l : Launch) (G : GG) (ph : Nat) (pd : Nat → Nat) (nr : Nat) (nc : Nat) (pL : Nat → Nat) (pG : Nat → Nat) (pB : Nat → Bool) (pk : Nat → Int32) (pa : Nat → Nat) (pt : Nat → Nat) (pm : Nat) (qh : Nat) (qd : Nat → Nat) (mr : Nat) (mc : Nat) (qL : Nat → Nat) (qG : Nat → Nat) (qB : Nat → Bool) (qk : Nat → Int32) (qa : Nat → Nat) (qt : Nat → Nat) (qm : Nat) (hL : ∀ i, qL i < 65536) (hG : ∀ i, qG i < 65536) : MM l G yX2_take_2 cX2_take_2 2 none ⟨2, 0, 0, 39⟩ [.ref ph, .ref qh] (PW G ph pd nr nc pL pG pB pk pa pt pm ++ PW G qh qd mr mc qL qG qB qk qa qt qm) (Qv_ G (fun (_ : Unit) => True) (fun (_ : Unit) => (PW G ph pd mr mc qL qG qB qk pa pt pm ++ PW G qh qd mr mc qL qG qB qk qa qt qm))) := by
  refine MM.of (by decide) (Nat.le_of_ble_eq_true rfl) ?_
  intro p e s m args below meth cd A C hini hA hK hZ hP hD ls hl
  generalize hQ : MQ below ((Qv_ G (fun (_ : Unit) => True) (fun (_ : Unit) => (PW G ph pd mr mc qL qG qB qk pa pt pm ++ PW G qh qd mr mc qL qG qB qk qa qt qm))) A) args s (⟨2, 0, 0, 39⟩ : Room).cells (⟨2, 0, 0, 39⟩ : Room).slots A = Q
  obtain ⟨hx, hb, hr, hts, hown, hlk, hml⟩ := C
  have hown : s.vm.findClass RX2 = some m.cls := hown
  have hS : va_S A s.heap s.heap [] := va_S.rf
  have hl : lv_has ls 2 [(0, .ref ph), (1, .ref qh)] := hl
  refine lv_aload_n hx hb dX2_take_2_0 rfl (lv_at hl 0 rfl) ?_
  refine lv_aload_n hx hb dX2_take_2_1 rfl (lv_at hl 1 rfl) ?_
  refine va_castS hx hb hown (hts _ q1166) (hK.1 1 _ rfl).2 (va_recv hK hP (ci := 1) (q0 := 6) rfl rfl) dX2_take_2_2 ?_
  refine callVv (As := [.ref qh]) (rest := []) (wc := (PW G ph pd nr nc pL pG pB pk pa pt pm ++ PW G qh qd mr mc qL qG qB qk qa qt qm)) (wr := ([] : va_W)) ⟨hx, hb, hml, hown, hts⟩ (m_X2_take l G ph pd nr nc pL pG pB pk pa pt pm qh qd mr mc qL qG qB qk qa qt qm (by first | assumption | omega) (by first | assumption | omega)) (cwV 1 hts (lw_V q1167 q1099 q1100 q89 q1101) rfl rfl rfl (by decide +kernel) ⟨Nat.le_of_ble_eq_true rfl, Nat.le_of_ble_eq_true rfl⟩) hK hZ hA hP hD hS [0, 1, 2, 3, 4, 5, 6, 7, 8, 9, 10, 11] [] rfl rfl (by decide) (by decide) (by decide) 0 1 rfl rfl rfl hl.1 (Nat.le_of_ble_eq_true rfl) ⟨Nat.le_of_ble_eq_true rfl, Nat.le_of_ble_eq_true rfl⟩ rfl dX2_take_2_5 (fun u9 H locs hw9 hP hD hS => ?_)
  have hP : va_P G.1 CL (PW G ph pd mr mc qL qG qB qk pa pt pm ++ PW G qh qd mr mc qL qG qB qk qa qt qm) _ := hP
  have hD : va_D A (PW G ph pd mr mc qL qG qB qk pa pt pm ++ PW G qh qd mr mc qL qG qB qk qa qt qm) := hD
  subst hQ
  exact ret_v hx hb hr hlk () trivial hP hD hS dX2_take_2_8
