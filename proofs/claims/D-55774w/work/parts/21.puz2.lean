/-! ===== more pure words: counts, first places, ways ===== -/
def tm (L : Nat → Nat) (n c : Nat) : Nat := cn (fun k => decide (L k = c)) n
theorem tm_le (L : Nat → Nat) (n c : Nat) : tm L n c ≤ n := cn_le _ _
/-- letters of the goal that the board lacks -/
def lk (L K : Nat → Nat) (n : Nat) : Bool := ay (fun v => decide (tm L n (97 + v) < tm K n (97 + v))) 12
/-- how many different letters -/
def ul (L : Nat → Nat) (n : Nat) : Nat := cn (fun v => decide (0 < tm L n (97 + v))) 12
/-- the first place that is so, or n -/
def fx (P : Nat → Bool) : Nat → Nat
  | 0 => 0
  | k + 1 => if fx P k < k then fx P k else if P k = true then k else k + 1
theorem fx_le (P : Nat → Bool) : ∀ n, fx P n ≤ n
  | 0 => Nat.le_refl 0
  | k + 1 => by have := fx_le P k; simp only [fx]; split <;> try split <;> omega
                all_goals omega
theorem fx_lt {P : Nat → Bool} {n k : Nat} (hk : k < n) (h0 : fx P k = k) (h : P k = true) : fx P n = k := by
  induction n with
  | zero => omega
  | succ m ih =>
    simp only [fx]
    by_cases hm : k < m
    · rw [ih hm, if_pos hm]
    · have : k = m := by omega
      subst this
      rw [h0, if_neg (Nat.lt_irrefl _), if_pos h]
theorem fx_up {P : Nat → Bool} {k : Nat} (h0 : fx P k = k) (h : P k = false) : fx P (k + 1) = k + 1 := by
  simp only [fx]; rw [h0, if_neg (Nat.lt_irrefl _), if_neg (by rw [h]; decide)]
theorem fx_spec {P : Nat → Bool} : ∀ {n : Nat}, (∀ j, j < fx P n → P j = false) ∧ (fx P n < n → P (fx P n) = true)
  | 0 => ⟨fun j hj => absurd hj (Nat.not_lt_zero _), fun h => absurd h (Nat.not_lt_zero _)⟩
  | k + 1 => by
    have ih := fx_spec (P := P) (n := k)
    have hle := fx_le P k
    simp only [fx]
    by_cases h1 : fx P k < k
    · rw [if_pos h1]; exact ⟨ih.1, fun _ => ih.2 h1⟩
    · have e : fx P k = k := by omega
      rw [if_neg h1]
      by_cases h2 : P k = true
      · rw [if_pos h2]; exact ⟨fun j hj => ih.1 j (by omega), fun _ => h2⟩
      · rw [if_neg h2]
        refine ⟨fun j hj => ?_, fun h => absurd h (Nat.lt_irrefl _)⟩
        by_cases hj2 : j = k
        · subst hj2; simpa using h2
        · exact ih.1 j (by omega)
/-- a place, or -1 -/
def oN (n k : Nat) : Int32 := if k < n then nI k else -1
theorem oN_lt {n k : Nat} (h : k < n) : oN n k = nI k := if_pos h
theorem oN_ge {n k : Nat} (h : ¬ k < n) : oN n k = -1 := if_neg h
theorem nI_ne1 {k : Nat} (h : k < 2147483648) : ¬ nI k = -1 := fun z => by
  have h1 := congrArg Int32.toInt z
  rw [nI_toInt h] at h1
  have h2 : (-1 : Int32).toInt = -1 := by decide
  omega
theorem oN_m1 {n k : Nat} (h : n < 2147483648) : oN n k = -1 ↔ ¬ k < n := by
  unfold oN; split
  · exact ⟨fun z => absurd z (nI_ne1 (by omega)), fun z => absurd (by assumption) z⟩
  · exact ⟨fun _ => by assumption, fun _ => rfl⟩
def hoN (n : Nat) (L K : Nat → Nat) (p : Nat) : Nat := if fx (fun j => decide (K j = L p)) n < n then fx (fun j => decide (K j = L p)) n else fx (fun j => decide (K j = 46)) n
def pry (L K : Nat → Nat) (n any : Nat) : Bool := decide (ul L n = n) && decide (tm K n 46 ≤ any) && !lk L K n
abbrev ZAW (G : GG) (h n : Nat) (B : Nat → Bool) : va_W := [(h, .inl (G.2.1 0, n, .inl (bA B)))]
abbrev CAW (G : GG) (h n : Nat) (B : Nat → Nat) : va_W := [(h, .inl (G.2.1 2, n, .inl (nA B)))]
abbrev IAW (G : GG) (h n : Nat) (B : Nat → Nat) : va_W := [(h, .inl (G.2.1 3, n, .inl (nA B)))]
theorem ay_le {P : Nat → Bool} {k n : Nat} (h : ay P k = true) (hk : k ≤ n) : ay P n = true := by
  induction n with
  | zero => have : k = 0 := by omega
            subst this; exact h
  | succ m ih =>
    by_cases hm : k ≤ m
    · simp only [ay, ih hm, Bool.true_or]
    · have : k = m + 1 := by omega
      subst this; exact h
/-- the goal in just so many open turns -/
def rch (nr nc : Nat) (B : Nat → Bool) (K : Nat → Nat) : Nat → (Nat → Nat) → Bool
  | 0, L => decide (hm nr nc L K = nr * nc)
  | d + 1, L => ay (fun t => !B (t / 2) && rch nr nc B K d (tn nr nc t L)) (2 * (nr + nc))
/-- the fewest turns, or 4 -/
def awN (f : Nat → Bool) : Nat := if f 0 = true then 0 else if f 1 = true then 1 else if f 2 = true then 2 else if f 3 = true then 3 else 4
theorem awN_le (f : Nat → Bool) : awN f ≤ 4 := by
  unfold awN; (repeat' split) <;> omega
/-- the shorter way round -/
def rdN (x y n : Nat) : Nat := min (if y ≤ x then x - y else y - x) (n - (if y ≤ x then x - y else y - x))
def farN (nr nc p q : Nat) : Nat := rdN (p / nc) (q / nc) nr + rdN (p % nc) (q % nc) nc
def whN (nr nc p t times : Nat) : Nat := if onL nr nc p (t / 2) = true then plOn nr nc (t / 2) (((if t / 2 < nr then p % nc else p / nc) + (if t % 2 = 0 then times else (szOf nr nc (t / 2) - 1) * times)) % szOf nr nc (t / 2)) else p
def vwsN (nr nc : Nat) (L : Nat → Nat) (line : Nat) : Nat := cn (fun k => vw (L (plOn nr nc line k))) (szOf nr nc line)
def snN (nr nc : Nat) (L : Nat → Nat) (line : Nat) : Bool := decide (0 < vwsN nr nc L line) && al (fun k => !vw (L (plOn nr nc line k)) || !vw (L (plOn nr nc line ((k + 1) % szOf nr nc line)))) (szOf nr nc line)
def fkN (n : Nat) (L K : Nat → Nat) (p : Nat) : Bool := decide (K p ≠ 46) && decide (tm L n (K p) = 1)
/-- the line's letters moved one by one, as the loop does it -/
def rtN (nr nc line last : Nat) (b : Bool) (L : Nat → Nat) : Nat → (Nat → Nat)
  | 0 => L
  | k + 1 => va_up (rtN nr nc line last b L k) (plOn nr nc line (if b = true then k else last - k)) (rtN nr nc line last b L k (plOn nr nc line (if b = true then k + 1 else last - k - 1)))
theorem up_lt {L : Nat → Nat} {b k v : Nat} (h : ∀ i, L i < b) (hv : v < b) : ∀ i, va_up L k v i < b := fun i => by
  unfold va_up; split
  · exact hv
  · exact h i
theorem tn_lt {L : Nat → Nat} {b nr nc t : Nat} (h : ∀ i, L i < b) : ∀ i, tn nr nc t L i < b := fun i => by
  unfold tn; split <;> exact h _
theorem rtN_out {nr nc line last p : Nat} {b : Bool} {L : Nat → Nat} (h : ∀ j, j ≤ last → p ≠ plOn nr nc line j) : ∀ k, k ≤ last → rtN nr nc line last b L k p = L p
  | 0, _ => rfl
  | k + 1, hk => by
    simp only [rtN, va_up]
    rw [if_neg (by cases b <;> simp <;> exact h _ (by omega))]
    exact rtN_out h k (by omega)
/-- a finite fact of boards, turns and places, by trying all -/
theorem fin4 {P : Nat → Nat → Nat → Nat → Bool} (h : ((List.range 4).all fun nr => (List.range 4).all fun nc => (List.range 12).all fun t => (List.range 9).all fun p => !(decide (2 ≤ nr) && decide (2 ≤ nc) && decide (t < 2 * (nr + nc)) && decide (p < nr * nc)) || P nr nc t p) = true) {nr nc t p : Nat} (hd : 2 ≤ nr ∧ nr ≤ 3 ∧ 2 ≤ nc ∧ nc ≤ 3) (ht : t < 2 * (nr + nc)) (hp : p < nr * nc) : P nr nc t p = true := by
  have hm := dm_mul hd
  have h1 := List.all_eq_true.mp h nr (List.mem_range.mpr (by omega))
  have h2 := List.all_eq_true.mp h1 nc (List.mem_range.mpr (by omega))
  have h3 := List.all_eq_true.mp h2 t (List.mem_range.mpr (by omega))
  have h4 := List.all_eq_true.mp h3 p (List.mem_range.mpr (by omega))
  simpa [hd.1, hd.2.2.1, ht, hp] using h4
theorem gs_fin {nr nc t p : Nat} (hd : 2 ≤ nr ∧ nr ≤ 3 ∧ 2 ≤ nc ∧ nc ≤ 3) (ht : t < 2 * (nr + nc)) (hp : p < nr * nc) : gs nr nc p t < nr * nc ∧ gs nr nc (gs nr nc p t) (bk t) = p ∧ bk t < 2 * (nr + nc) ∧ bk (bk t) = t ∧ bk t / 2 = t / 2 := of_decide_eq_true (fin4 (P := fun nr nc t p => decide (gs nr nc p t < nr * nc ∧ gs nr nc (gs nr nc p t) (bk t) = p ∧ bk t < 2 * (nr + nc) ∧ bk (bk t) = t ∧ bk t / 2 = t / 2)) (by decide +kernel) hd ht hp)
theorem bk_lt {nr nc t : Nat} (hd : 2 ≤ nr ∧ nr ≤ 3 ∧ 2 ≤ nc ∧ nc ≤ 3) (ht : t < 2 * (nr + nc)) : bk t < 2 * (nr + nc) ∧ bk (bk t) = t ∧ bk t / 2 = t / 2 := (gs_fin (p := 0) hd ht (by have := dm_mul hd; omega)).2.2
theorem gs_lt {nr nc t p : Nat} (hd : 2 ≤ nr ∧ nr ≤ 3 ∧ 2 ≤ nc ∧ nc ≤ 3) (ht : t < 2 * (nr + nc)) (hp : p < nr * nc) : gs nr nc p t < nr * nc := (gs_fin hd ht hp).1
theorem gs_bk {nr nc t p : Nat} (hd : 2 ≤ nr ∧ nr ≤ 3 ∧ 2 ≤ nc ∧ nc ≤ 3) (ht : t < 2 * (nr + nc)) (hp : p < nr * nc) : gs nr nc (gs nr nc p t) (bk t) = p := (gs_fin hd ht hp).2.1
/-- a turn and the one that takes it back -/
theorem tn_bk {nr nc t : Nat} (hd : 2 ≤ nr ∧ nr ≤ 3 ∧ 2 ≤ nc ∧ nc ≤ 3) (ht : t < 2 * (nr + nc)) (L : Nat → Nat) : tn nr nc (bk t) (tn nr nc t L) = L := by
  obtain ⟨b1, b2, -⟩ := bk_lt hd ht
  funext p
  unfold tn
  by_cases hp : p < nr * nc
  · rw [if_pos hp, b2, if_pos (gs_lt hd ht hp), gs_bk hd ht hp]
  · rw [if_neg hp, if_neg hp]
theorem bk_tn {nr nc t : Nat} (hd : 2 ≤ nr ∧ nr ≤ 3 ∧ 2 ≤ nc ∧ nc ≤ 3) (ht : t < 2 * (nr + nc)) (L : Nat → Nat) : tn nr nc t (tn nr nc (bk t) L) = L := by
  obtain ⟨b1, b2, -⟩ := bk_lt hd ht
  have h := tn_bk hd b1 L
  rwa [b2] at h
set_option maxHeartbeats 4000000 in
theorem rt_all {nr nc t : Nat} (hd : 2 ≤ nr ∧ nr ≤ 3 ∧ 2 ≤ nc ∧ nc ≤ 3) (ht : t < 2 * (nr + nc)) (L : Nat → Nat) : va_up (rtN nr nc (t / 2) (szOf nr nc (t / 2) - 1) (decide (t % 2 = 1)) L (szOf nr nc (t / 2) - 1)) (plOn nr nc (t / 2) (if t % 2 = 1 then szOf nr nc (t / 2) - 1 else 0)) (L (plOn nr nc (t / 2) (if t % 2 = 1 then 0 else szOf nr nc (t / 2) - 1))) = tn nr nc t L := by
  funext p
  have hz := szOf_lt (line := t / 2) hd
  by_cases hp : p < nr * nc
  · obtain ⟨a, b, c, d⟩ := hd
    rcases (show nr = 2 ∨ nr = 3 by omega) with rfl | rfl <;> rcases (show nc = 2 ∨ nc = 3 by omega) with rfl | rfl
    · rcases (show t = 0 ∨ t = 1 ∨ t = 2 ∨ t = 3 ∨ t = 4 ∨ t = 5 ∨ t = 6 ∨ t = 7 by omega) with rfl | rfl | rfl | rfl | rfl | rfl | rfl | rfl <;> rcases (show p = 0 ∨ p = 1 ∨ p = 2 ∨ p = 3 by omega) with rfl | rfl | rfl | rfl <;> rfl
    · rcases (show t = 0 ∨ t = 1 ∨ t = 2 ∨ t = 3 ∨ t = 4 ∨ t = 5 ∨ t = 6 ∨ t = 7 ∨ t = 8 ∨ t = 9 by omega) with rfl | rfl | rfl | rfl | rfl | rfl | rfl | rfl | rfl | rfl <;> rcases (show p = 0 ∨ p = 1 ∨ p = 2 ∨ p = 3 ∨ p = 4 ∨ p = 5 by omega) with rfl | rfl | rfl | rfl | rfl | rfl <;> rfl
    · rcases (show t = 0 ∨ t = 1 ∨ t = 2 ∨ t = 3 ∨ t = 4 ∨ t = 5 ∨ t = 6 ∨ t = 7 ∨ t = 8 ∨ t = 9 by omega) with rfl | rfl | rfl | rfl | rfl | rfl | rfl | rfl | rfl | rfl <;> rcases (show p = 0 ∨ p = 1 ∨ p = 2 ∨ p = 3 ∨ p = 4 ∨ p = 5 by omega) with rfl | rfl | rfl | rfl | rfl | rfl <;> rfl
    · rcases (show t = 0 ∨ t = 1 ∨ t = 2 ∨ t = 3 ∨ t = 4 ∨ t = 5 ∨ t = 6 ∨ t = 7 ∨ t = 8 ∨ t = 9 ∨ t = 10 ∨ t = 11 by omega) with rfl | rfl | rfl | rfl | rfl | rfl | rfl | rfl | rfl | rfl | rfl | rfl <;> rcases (show p = 0 ∨ p = 1 ∨ p = 2 ∨ p = 3 ∨ p = 4 ∨ p = 5 ∨ p = 6 ∨ p = 7 ∨ p = 8 by omega) with rfl | rfl | rfl | rfl | rfl | rfl | rfl | rfl | rfl <;> rfl
  · have ho : ∀ j, j ≤ szOf nr nc (t / 2) - 1 → p ≠ plOn nr nc (t / 2) j := fun j hj => by
      have := (plOn_lt hd (line := t / 2) (k := j) (by omega) (by omega)).1
      omega
    unfold tn
    rw [if_neg hp]
    show (if p = _ then _ else _) = _
    rw [if_neg (by split <;> exact ho _ (by omega)), rtN_out ho _ (Nat.le_refl _)]
theorem rt_b {nr nc t : Nat} (hd : 2 ≤ nr ∧ nr ≤ 3 ∧ 2 ≤ nc ∧ nc ≤ 3) (ht : t < 2 * (nr + nc)) (h : t % 2 = 1) (L : Nat → Nat) : va_up (rtN nr nc (t / 2) (szOf nr nc (t / 2) - 1) (decide (t % 2 = 1)) L (szOf nr nc (t / 2) - 1)) (plOn nr nc (t / 2) (szOf nr nc (t / 2) - 1)) (L (plOn nr nc (t / 2) 0)) = tn nr nc t L := by
  have e := rt_all hd ht L
  rw [if_pos h, if_pos h] at e
  exact e
theorem rt_f {nr nc t : Nat} (hd : 2 ≤ nr ∧ nr ≤ 3 ∧ 2 ≤ nc ∧ nc ≤ 3) (ht : t < 2 * (nr + nc)) (h : t % 2 ≠ 1) (L : Nat → Nat) : va_up (rtN nr nc (t / 2) (szOf nr nc (t / 2) - 1) (decide (t % 2 = 1)) L (szOf nr nc (t / 2) - 1)) (plOn nr nc (t / 2) 0) (L (plOn nr nc (t / 2) (szOf nr nc (t / 2) - 1))) = tn nr nc t L := by
  have e := rt_all hd ht L
  rw [if_neg h, if_neg h] at e
  exact e
theorem al_t {P : Nat → Bool} : ∀ {n : Nat}, (∀ k, k < n → P k = true) → al P n = true
  | 0, _ => rfl
  | k + 1, h => by rw [al, al_t (fun j hj => h j (by omega)), h k (by omega)]; rfl
theorem wh_fin {nr nc t p : Nat} (hd : 2 ≤ nr ∧ nr ≤ 3 ∧ 2 ≤ nc ∧ nc ≤ 3) (ht : t < 2 * (nr + nc)) (hp : p < nr * nc) : whN nr nc p t 1 < nr * nc ∧ whN nr nc (whN nr nc p t 1) (bk t) 1 = p := of_decide_eq_true (fin4 (P := fun nr nc t p => decide (whN nr nc p t 1 < nr * nc ∧ whN nr nc (whN nr nc p t 1) (bk t) 1 = p)) (by decide +kernel) hd ht hp)
set_option maxHeartbeats 4000000 in
set_option maxRecDepth 100000 in
theorem m_X2_isReached (l : Launch) (G : GG) (ph : Nat) (pd : Nat → Nat) (nr : Nat) (nc : Nat) (pL : Nat → Nat) (pG : Nat → Nat) (pB : Nat → Bool) (pk : Nat → Int32) (pa : Nat → Nat) (pt : Nat → Nat) (pm : Nat) (hd : 2 ≤ nr ∧ nr ≤ 3 ∧ 2 ≤ nc ∧ nc ≤ 3) (hL : ∀ i, pL i < 65536) (hG : ∀ i, pG i < 65536) : MM l G yX2_isReached cX2_isReached 1 (some .boolean) ⟨3, 0, 0, 64⟩ [.ref ph] (PW G ph pd nr nc pL pG pB pk pa pt pm) (Qi_ G (fun (r : Int32) (_ : Unit) => r = bI (decide (hm nr nc pL pG = nr * nc))) (fun (_ : Unit) => (PW G ph pd nr nc pL pG pB pk pa pt pm))) := by
  refine MM.of (by decide) (Nat.le_of_ble_eq_true rfl) ?_
  intro p e s m args below meth cd A C hini hA hK hZ hP hD ls hl
  generalize hQ : MQ below ((Qi_ G (fun (r : Int32) (_ : Unit) => r = bI (decide (hm nr nc pL pG = nr * nc))) (fun (_ : Unit) => (PW G ph pd nr nc pL pG pB pk pa pt pm))) A) args s (⟨3, 0, 0, 64⟩ : Room).cells (⟨3, 0, 0, 64⟩ : Room).slots A = Q
  obtain ⟨hx, hb, hr, hts, hown, hlk, hml⟩ := C
  have hown : s.vm.findClass RX2 = some m.cls := hown
  have hS : va_S A s.heap s.heap [] := va_S.rf
  have hl : lv_has ls 1 [(0, .ref ph)] := hl
  have hmu := dm_mul hd
  refine lv_aload_n hx hb dX2_isReached_0 rfl (lv_at hl 0 rfl) ?_
  refine callVi (As := []) (rest := []) (wc := (PW G ph pd nr nc pL pG pB pk pa pt pm)) (wr := ([] : va_W)) ⟨hx, hb, hml, hown, hts⟩ (m_X2_home l G ph pd nr nc pL pG pB pk pa pt pm (by first | assumption | omega) (by first | assumption | omega) (by first | assumption | omega)) (cwV 0 hts (lw_V q1059 q510 q511 q89 q512) rfl rfl rfl (by decide +kernel) ⟨Nat.le_of_ble_eq_true rfl, Nat.le_of_ble_eq_true rfl⟩) hK hZ hA hP hD hS [0, 1, 2, 3, 4, 5] [] rfl rfl (by decide) (by decide) (by decide) 0 1 rfl rfl rfl hl.1 (Nat.le_of_ble_eq_true rfl) ⟨Nat.le_of_ble_eq_true rfl, Nat.le_of_ble_eq_true rfl⟩ rfl dX2_isReached_1 (fun r9 u9 H locs hw9 hP hD hS => ?_)
  subst hw9
  have hP : va_P G.1 CL (PW G ph pd nr nc pL pG pB pk pa pt pm) _ := hP
  have hD : va_D A (PW G ph pd nr nc pL pG pB pk pa pt pm) := hD
  refine lv_aload_n hx hb dX2_isReached_4 rfl (lv_at hl 0 rfl) ?_
  refine callVi (As := []) (rest := [.int (nI (hm nr nc pL pG))]) (wc := (PW G ph pd nr nc pL pG pB pk pa pt pm)) (wr := ([] : va_W)) ⟨hx, hb, hml, hown, hts⟩ (m_X2_places l G ph pd nr nc pL pG pB pk pa pt pm ) (cwV 0 hts (lw_V q474 q475 q476 q89 q477) rfl rfl rfl (by decide +kernel) ⟨Nat.le_of_ble_eq_true rfl, Nat.le_of_ble_eq_true rfl⟩) hK hZ hA hP hD hS [0, 1, 2, 3, 4, 5] [] rfl rfl (by decide) (by decide) (by decide) 0 1 rfl rfl rfl hl.1 (Nat.le_of_ble_eq_true rfl) ⟨Nat.le_of_ble_eq_true rfl, Nat.le_of_ble_eq_true rfl⟩ rfl dX2_isReached_5 (fun r9 u9 H locs hw9 hP hD hS => ?_)
  subst hw9
  have hP : va_P G.1 CL (PW G ph pd nr nc pL pG pB pk pa pt pm) _ := hP
  have hD : va_D A (PW G ph pd nr nc pL pG pB pk pa pt pm) := hD
  have hh := hm_le nr nc pL pG
  refine n_cmp_ne (tgt := 15) hx hb dX2_isReached_8 (by decide) (by omega) (by omega) (fun c8 => ?_) (fun c8 => ?_)
  · skip
    refine lv_iconst (v := nI 0) hx hb dX2_isReached_15 (by decide) ?_
    subst hQ
    exact ret_i hx hb hr hlk () (bI_d0 c8) hP hD hS rfl dX2_isReached_16
  · skip
    refine lv_iconst (v := nI 1) hx hb dX2_isReached_11 (by decide) ?_
    refine lv_goto (tgt := 16) hx hb dX2_isReached_12 (by decide) ?_
    subst hQ
    exact ret_i hx hb hr hlk () (bI_d1 c8) hP hD hS rfl dX2_isReached_16
set_option maxHeartbeats 4000000 in
set_option maxRecDepth 100000 in
theorem m_X2_turns_2__L (l : Launch) (G : GG) (ph : Nat) (pd : Nat → Nat) (nr : Nat) (nc : Nat) (pL : Nat → Nat) (pG : Nat → Nat) (pB : Nat → Bool) (pk : Nat → Int32) (pa : Nat → Nat) (pt : Nat → Nat) (pm : Nat) (tt : Nat) (hd : 2 ≤ nr ∧ nr ≤ 3 ∧ 2 ≤ nc ∧ nc ≤ 3) (ht0 : tt < 2 * (nr + nc)) (hL : ∀ i, pL i < 65536) : MM l G yX2_turns_2 cX2_turns_2 10 none ⟨1, 0, 0, 22⟩ [.ref ph, .ref (pd 0), .int (nI tt)] (PW G ph pd nr nc pL pG pB pk pa pt pm) (Qv_ G (fun (_ : Unit) => True) (fun (_ : Unit) => (PW G ph pd nr nc (tn nr nc tt pL) pG pB pk pa pt pm))) := by
  refine MM.of (by decide) (Nat.le_of_ble_eq_true rfl) ?_
  intro p e s m args below meth cd A C hini hA hK hZ hP hD ls hl
  generalize hQ : MQ below ((Qv_ G (fun (_ : Unit) => True) (fun (_ : Unit) => (PW G ph pd nr nc (tn nr nc tt pL) pG pB pk pa pt pm))) A) args s (⟨1, 0, 0, 22⟩ : Room).cells (⟨1, 0, 0, 22⟩ : Room).slots A = Q
  obtain ⟨hx, hb, hr, hts, hown, hlk, hml⟩ := C
  have hown : s.vm.findClass RX2 = some m.cls := hown
  have hS : va_S A s.heap s.heap [] := va_S.rf
  have hl : lv_has ls 10 [(0, .ref ph), (1, .ref (pd 0)), (2, .int (nI tt))] := hl
  have hmu := dm_mul hd
  have hz := szOf_lt (line := tt / 2) hd
  refine lv_iload_n hx hb dX2_turns_2_0 rfl (lv_at hl 2 rfl) ?_
  refine lv_iconst (v := nI 2) hx hb dX2_turns_2_1 (by decide) ?_
  refine n_idiv hx hb (by omega) (by omega) (by omega) dX2_turns_2_2 ?_
  refine lv_istore_n (lv' := [(3, .int (nI (tt / 2))), (0, .ref ph), (1, .ref (pd 0)), (2, .int (nI tt))]) hx hb dX2_turns_2_3 rfl hl (by decide) rfl (fun ls hl => ?_)
  refine lv_aload_n hx hb dX2_turns_2_4 rfl (lv_at hl 1 rfl) ?_
  refine lv_iload_n hx hb dX2_turns_2_5 rfl (lv_at hl 0 rfl) ?_
  refine callVi (As := [.int (nI (tt / 2))]) (rest := []) (wc := (PW G ph pd nr nc pL pG pB pk pa pt pm)) (wr := ([] : va_W)) ⟨hx, hb, hml, hown, hts⟩ (m_X2_sizeOf l G ph pd nr nc pL pG pB pk pa pt pm (tt / 2) (by first | assumption | omega) (by first | assumption | omega)) (cwV 1 hts (lw_V q580 q581 q582 q89 q583) rfl rfl rfl (by decide +kernel) ⟨Nat.le_of_ble_eq_true rfl, Nat.le_of_ble_eq_true rfl⟩) hK hZ hA hP hD hS [0, 1, 2, 3, 4, 5] [] rfl rfl (by decide) (by decide) (by decide) 0 1 rfl rfl rfl hl.1 (Nat.le_of_ble_eq_true rfl) ⟨Nat.le_of_ble_eq_true rfl, Nat.le_of_ble_eq_true rfl⟩ rfl dX2_turns_2_6 (fun r9 u9 H locs hw9 hP hD hS => ?_)
  subst hw9
  have hP : va_P G.1 CL (PW G ph pd nr nc pL pG pB pk pa pt pm) _ := hP
  have hD : va_D A (PW G ph pd nr nc pL pG pB pk pa pt pm) := hD
  refine lv_iconst (v := nI 1) hx hb dX2_turns_2_9 (by decide) ?_
  refine n_isub hx hb (by omega) dX2_turns_2_10 ?_
  refine lv_istore (lv' := [(4, .int (nI ((szOf nr nc (tt / 2)) - 1))), (3, .int (nI (tt / 2))), (0, .ref ph), (1, .ref (pd 0)), (2, .int (nI tt))]) hx hb dX2_turns_2_11 hl (by decide) rfl (fun ls hl => ?_)
  refine lv_iload_n hx hb dX2_turns_2_13 rfl (lv_at hl 4 rfl) ?_
  refine lv_iconst (v := nI 2) hx hb dX2_turns_2_14 (by decide) ?_
  refine n_irem hx hb (by omega) (by omega) (by omega) dX2_turns_2_15 ?_
  refine lv_iconst (v := nI 1) hx hb dX2_turns_2_16 (by decide) ?_
  refine n_cmp_ne (tgt := 24) hx hb dX2_turns_2_17 (by decide) (by omega) (by omega) (fun c17 => ?_) (fun c17 => ?_)
  · skip
    refine lv_iconst (v := nI 0) hx hb dX2_turns_2_24 (by decide) ?_
    refine lv_istore (lv' := [(5, .int (nI 0)), (4, .int (nI ((szOf nr nc (tt / 2)) - 1))), (3, .int (nI (tt / 2))), (0, .ref ph), (1, .ref (pd 0)), (2, .int (nI tt))]) hx hb dX2_turns_2_25 hl (by decide) rfl (fun ls hl => ?_)
    refine lv_aload_n hx hb dX2_turns_2_27 rfl (lv_at hl 4 rfl) ?_
    refine lv_aload_n hx hb dX2_turns_2_28 rfl (lv_at hl 3 rfl) ?_
    refine lv_iload_n hx hb dX2_turns_2_29 rfl (lv_at hl 2 rfl) ?_
    refine lv_iload hx hb dX2_turns_2_30 (lv_at hl 0 rfl) ?_
    refine n_if_eq (tgt := 39) hx hb dX2_turns_2_32 (by decide) (by decide) (fun c32 => ?_) (fun c32 => ?_)
    rotate_left
    · exact absurd c32 (by decide)
    refine lv_iload hx hb dX2_turns_2_39 (lv_at hl 1 rfl) ?_
    refine callVi (As := [.int (nI (tt / 2)), .int (nI ((szOf nr nc (tt / 2)) - 1))]) (rest := [.ref (pd 0)]) (wc := (PW G ph pd nr nc pL pG pB pk pa pt pm)) (wr := ([] : va_W)) ⟨hx, hb, hml, hown, hts⟩ (m_X2_placeOn l G ph pd nr nc pL pG pB pk pa pt pm (tt / 2) ((szOf nr nc (tt / 2)) - 1) (by first | assumption | omega) (by first | assumption | omega)) (cwV 2 hts (lw_V q588 q589 q590 q89 q591) rfl rfl rfl (by decide +kernel) ⟨Nat.le_of_ble_eq_true rfl, Nat.le_of_ble_eq_true rfl⟩) hK hZ hA hP hD hS [0, 1, 2, 3, 4, 5] [] rfl rfl (by decide) (by decide) (by decide) 0 1 rfl rfl rfl hl.1 (Nat.le_of_ble_eq_true rfl) ⟨Nat.le_of_ble_eq_true rfl, Nat.le_of_ble_eq_true rfl⟩ rfl dX2_turns_2_41 (fun r9 u9 H locs hw9 hP hD hS => ?_)
    subst hw9
    have hP : va_P G.1 CL (PW G ph pd nr nc pL pG pB pk pa pt pm) _ := hP
    have hD : va_D A (PW G ph pd nr nc pL pG pB pk pa pt pm) := hD
    refine n_cald hx hb hK hP 1 2 rfl rfl (plOn_lt hd (by omega) (by omega)).2 (by decide) dX2_turns_2_44 ?_
    refine lv_istore (lv' := [(6, .int (nI (pL (plOn nr nc (tt / 2) ((szOf nr nc (tt / 2)) - 1))))), (5, .int (nI 0)), (4, .int (nI ((szOf nr nc (tt / 2)) - 1))), (3, .int (nI (tt / 2))), (0, .ref ph), (1, .ref (pd 0)), (2, .int (nI tt))]) hx hb dX2_turns_2_45 hl (by decide) rfl (fun ls hl => ?_)
    refine lv_iconst (v := nI 0) hx hb dX2_turns_2_47 (by decide) ?_
    refine lv_istore (lv' := [(7, .int (nI 0)), (6, .int (nI (pL (plOn nr nc (tt / 2) ((szOf nr nc (tt / 2)) - 1))))), (5, .int (nI 0)), (4, .int (nI ((szOf nr nc (tt / 2)) - 1))), (3, .int (nI (tt / 2))), (0, .ref ph), (1, .ref (pd 0)), (2, .int (nI tt))]) hx hb dX2_turns_2_48 hl (by decide) rfl (fun ls hl => ?_)
    have lp50 : ∀ (f : Nat) (k : Nat) (Mx : Nat → Nat), szOf nr nc (tt / 2) - 1 - k < f → (k ≤ szOf nr nc (tt / 2) - 1) → (Mx = rtN nr nc (tt / 2) (szOf nr nc (tt / 2) - 1) (decide (tt % 2 = 1)) pL k) → (∀ i, Mx i < 65536) → ∀ (H : Heap) (locs : List Loc) (ls : Array Slot), va_P G.1 CL (PW G ph pd nr nc Mx pG pB pk pa pt pm) H → va_D A (PW G ph pd nr nc Mx pG pB pk pa pt pm) → va_S A s.heap H locs → lv_has ls 10 [(7, .int (nI k)), (6, .int (nI (pL (plOn nr nc (tt / 2) ((szOf nr nc (tt / 2)) - 1))))), (5, .int (nI 0)), (4, .int (nI ((szOf nr nc (tt / 2)) - 1))), (3, .int (nI (tt / 2))), (0, .ref ph), (1, .ref (pd 0)), (2, .int (nI tt))] → W p l e (⟨1, 0, 0, 22⟩ : Room) s m args below meth cd H locs 0 0 Q (F0 m 50 ls []) := by
      intro f
      induction f with
      | zero => intro k Mx hf; exact absurd hf (Nat.not_lt_zero _)
      | succ f ih50 =>
        intro k Mx hf hk hM hB H locs ls hP hD hS hl
        refine lv_iload hx hb dX2_turns_2_50 (lv_at hl 0 rfl) ?_
        refine lv_iload hx hb dX2_turns_2_52 (lv_at hl 3 rfl) ?_
        refine n_cmp_ge (tgt := 119) hx hb dX2_turns_2_54 (by decide) (by omega) (by omega) (fun c54 => ?_) (fun c54 => ?_)
        · skip
          refine lv_aload_n hx hb dX2_turns_2_119 rfl (lv_at hl 6 rfl) ?_
          refine lv_aload_n hx hb dX2_turns_2_120 rfl (lv_at hl 5 rfl) ?_
          refine lv_iload_n hx hb dX2_turns_2_121 rfl (lv_at hl 4 rfl) ?_
          refine lv_iload hx hb dX2_turns_2_122 (lv_at hl 2 rfl) ?_
          refine n_if_eq (tgt := 132) hx hb dX2_turns_2_124 (by decide) (by decide) (fun c124 => ?_) (fun c124 => ?_)
          rotate_left
          · exact absurd c124 (by decide)
          refine lv_iconst (v := nI 0) hx hb dX2_turns_2_132 (by decide) ?_
          refine callVi (As := [.int (nI (tt / 2)), .int (nI 0)]) (rest := [.ref (pd 0)]) (wc := (PW G ph pd nr nc Mx pG pB pk pa pt pm)) (wr := ([] : va_W)) ⟨hx, hb, hml, hown, hts⟩ (m_X2_placeOn l G ph pd nr nc Mx pG pB pk pa pt pm (tt / 2) 0 (by first | assumption | omega) (by first | assumption | omega)) (cwV 2 hts (lw_V q588 q589 q590 q89 q591) rfl rfl rfl (by decide +kernel) ⟨Nat.le_of_ble_eq_true rfl, Nat.le_of_ble_eq_true rfl⟩) hK hZ hA hP hD hS [0, 1, 2, 3, 4, 5] [] rfl rfl (by decide) (by decide) (by decide) 0 1 rfl rfl rfl hl.1 (Nat.le_of_ble_eq_true rfl) ⟨Nat.le_of_ble_eq_true rfl, Nat.le_of_ble_eq_true rfl⟩ rfl dX2_turns_2_133 (fun r9 u9 H locs hw9 hP hD hS => ?_)
          subst hw9
          have hP : va_P G.1 CL (PW G ph pd nr nc Mx pG pB pk pa pt pm) _ := hP
          have hD : va_D A (PW G ph pd nr nc Mx pG pB pk pa pt pm) := hD
          refine lv_iload hx hb dX2_turns_2_136 (lv_at hl 1 rfl) ?_
          refine n_cast hx hb hK hP hD hS 1 2 rfl rfl (plOn_lt hd (by omega) (by omega)).2 (by decide) (hL _) dX2_turns_2_138 (fun H locs hP hD hS => ?_)
          have hP : va_P G.1 CL (PW G ph pd nr nc (va_up Mx (plOn nr nc (tt / 2) 0) (pL (plOn nr nc (tt / 2) ((szOf nr nc (tt / 2)) - 1)))) pG pB pk pa pt pm) _ := hP
          have hD : va_D A (PW G ph pd nr nc (va_up Mx (plOn nr nc (tt / 2) 0) (pL (plOn nr nc (tt / 2) ((szOf nr nc (tt / 2)) - 1)))) pG pB pk pa pt pm) := hD
          have e_L : (va_up Mx (plOn nr nc (tt / 2) 0) (pL (plOn nr nc (tt / 2) ((szOf nr nc (tt / 2)) - 1)))) = (tn nr nc tt pL) := (by first | (rw [hM, show k = szOf nr nc (tt / 2) - 1 by omega]; exact rt_b hd ht0 c17 pL) | (rw [hM, show k = szOf nr nc (tt / 2) - 1 by omega]; exact rt_f hd ht0 c17 pL))
          rw [e_L] at hP hD
          subst hQ
          exact ret_v hx hb hr hlk () trivial hP hD hS dX2_turns_2_139
        · skip
          refine lv_iload hx hb dX2_turns_2_57 (lv_at hl 2 rfl) ?_
          refine n_if_eq (tgt := 67) hx hb dX2_turns_2_59 (by decide) (by decide) (fun c59 => ?_) (fun c59 => ?_)
          rotate_left
          · exact absurd c59 (by decide)
          refine lv_iload hx hb dX2_turns_2_67 (lv_at hl 3 rfl) ?_
          refine lv_iload hx hb dX2_turns_2_69 (lv_at hl 0 rfl) ?_
          refine n_isub hx hb (by omega) dX2_turns_2_71 ?_
          refine lv_istore (lv' := [(8, .int (nI (((szOf nr nc (tt / 2)) - 1) - k))), (7, .int (nI k)), (6, .int (nI (pL (plOn nr nc (tt / 2) ((szOf nr nc (tt / 2)) - 1))))), (5, .int (nI 0)), (4, .int (nI ((szOf nr nc (tt / 2)) - 1))), (3, .int (nI (tt / 2))), (0, .ref ph), (1, .ref (pd 0)), (2, .int (nI tt))]) hx hb dX2_turns_2_72 hl (by decide) rfl (fun ls hl => ?_)
          refine lv_iload hx hb dX2_turns_2_74 (lv_at hl 3 rfl) ?_
          refine n_if_eq (tgt := 86) hx hb dX2_turns_2_76 (by decide) (by decide) (fun c76 => ?_) (fun c76 => ?_)
          rotate_left
          · exact absurd c76 (by decide)
          refine lv_iload hx hb dX2_turns_2_86 (lv_at hl 4 rfl) ?_
          refine lv_iload hx hb dX2_turns_2_88 (lv_at hl 1 rfl) ?_
          refine n_isub hx hb (by omega) dX2_turns_2_90 ?_
          refine lv_iconst (v := nI 1) hx hb dX2_turns_2_91 (by decide) ?_
          refine n_isub hx hb (by omega) dX2_turns_2_92 ?_
          refine lv_istore (lv' := [(9, .int (nI ((((szOf nr nc (tt / 2)) - 1) - k) - 1))), (8, .int (nI (((szOf nr nc (tt / 2)) - 1) - k))), (7, .int (nI k)), (6, .int (nI (pL (plOn nr nc (tt / 2) ((szOf nr nc (tt / 2)) - 1))))), (5, .int (nI 0)), (4, .int (nI ((szOf nr nc (tt / 2)) - 1))), (3, .int (nI (tt / 2))), (0, .ref ph), (1, .ref (pd 0)), (2, .int (nI tt))]) hx hb dX2_turns_2_93 hl (by decide) rfl (fun ls hl => ?_)
          refine lv_aload_n hx hb dX2_turns_2_95 rfl (lv_at hl 8 rfl) ?_
          refine lv_aload_n hx hb dX2_turns_2_96 rfl (lv_at hl 7 rfl) ?_
          refine lv_iload_n hx hb dX2_turns_2_97 rfl (lv_at hl 6 rfl) ?_
          refine lv_iload hx hb dX2_turns_2_98 (lv_at hl 1 rfl) ?_
          refine callVi (As := [.int (nI (tt / 2)), .int (nI (((szOf nr nc (tt / 2)) - 1) - k))]) (rest := [.ref (pd 0)]) (wc := (PW G ph pd nr nc Mx pG pB pk pa pt pm)) (wr := ([] : va_W)) ⟨hx, hb, hml, hown, hts⟩ (m_X2_placeOn l G ph pd nr nc Mx pG pB pk pa pt pm (tt / 2) (((szOf nr nc (tt / 2)) - 1) - k) (by first | assumption | omega) (by first | assumption | omega)) (cwV 2 hts (lw_V q588 q589 q590 q89 q591) rfl rfl rfl (by decide +kernel) ⟨Nat.le_of_ble_eq_true rfl, Nat.le_of_ble_eq_true rfl⟩) hK hZ hA hP hD hS [0, 1, 2, 3, 4, 5] [] rfl rfl (by decide) (by decide) (by decide) 0 1 rfl rfl rfl hl.1 (Nat.le_of_ble_eq_true rfl) ⟨Nat.le_of_ble_eq_true rfl, Nat.le_of_ble_eq_true rfl⟩ rfl dX2_turns_2_100 (fun r9 u9 H locs hw9 hP hD hS => ?_)
          subst hw9
          have hP : va_P G.1 CL (PW G ph pd nr nc Mx pG pB pk pa pt pm) _ := hP
          have hD : va_D A (PW G ph pd nr nc Mx pG pB pk pa pt pm) := hD
          refine lv_aload_n hx hb dX2_turns_2_103 rfl (lv_at hl 8 rfl) ?_
          refine lv_aload_n hx hb dX2_turns_2_104 rfl (lv_at hl 7 rfl) ?_
          refine lv_iload_n hx hb dX2_turns_2_105 rfl (lv_at hl 6 rfl) ?_
          refine lv_iload hx hb dX2_turns_2_106 (lv_at hl 0 rfl) ?_
          refine callVi (As := [.int (nI (tt / 2)), .int (nI ((((szOf nr nc (tt / 2)) - 1) - k) - 1))]) (rest := [.ref (pd 0), .int (nI (plOn nr nc (tt / 2) (((szOf nr nc (tt / 2)) - 1) - k))), .ref (pd 0)]) (wc := (PW G ph pd nr nc Mx pG pB pk pa pt pm)) (wr := ([] : va_W)) ⟨hx, hb, hml, hown, hts⟩ (m_X2_placeOn l G ph pd nr nc Mx pG pB pk pa pt pm (tt / 2) ((((szOf nr nc (tt / 2)) - 1) - k) - 1) (by first | assumption | omega) (by first | assumption | omega)) (cwV 2 hts (lw_V q588 q589 q590 q89 q591) rfl rfl rfl (by decide +kernel) ⟨Nat.le_of_ble_eq_true rfl, Nat.le_of_ble_eq_true rfl⟩) hK hZ hA hP hD hS [0, 1, 2, 3, 4, 5] [] rfl rfl (by decide) (by decide) (by decide) 0 1 rfl rfl rfl hl.1 (Nat.le_of_ble_eq_true rfl) ⟨Nat.le_of_ble_eq_true rfl, Nat.le_of_ble_eq_true rfl⟩ rfl dX2_turns_2_108 (fun r9 u9 H locs hw9 hP hD hS => ?_)
          subst hw9
          have hP : va_P G.1 CL (PW G ph pd nr nc Mx pG pB pk pa pt pm) _ := hP
          have hD : va_D A (PW G ph pd nr nc Mx pG pB pk pa pt pm) := hD
          refine n_cald hx hb hK hP 1 2 rfl rfl (plOn_lt hd (by omega) (by omega)).2 (by decide) dX2_turns_2_111 ?_
          refine n_cast hx hb hK hP hD hS 1 2 rfl rfl (plOn_lt hd (by omega) (by omega)).2 (by decide) (hB _) dX2_turns_2_112 (fun H locs hP hD hS => ?_)
          have hP : va_P G.1 CL (PW G ph pd nr nc (va_up Mx (plOn nr nc (tt / 2) (((szOf nr nc (tt / 2)) - 1) - k)) (Mx (plOn nr nc (tt / 2) ((((szOf nr nc (tt / 2)) - 1) - k) - 1)))) pG pB pk pa pt pm) _ := hP
          have hD : va_D A (PW G ph pd nr nc (va_up Mx (plOn nr nc (tt / 2) (((szOf nr nc (tt / 2)) - 1) - k)) (Mx (plOn nr nc (tt / 2) ((((szOf nr nc (tt / 2)) - 1) - k) - 1)))) pG pB pk pa pt pm) := hD
          refine lv_iinc (v := nI (k + 1)) (lv' := [(7, .int (nI (k + 1))), (9, .int (nI ((((szOf nr nc (tt / 2)) - 1) - k) - 1))), (8, .int (nI (((szOf nr nc (tt / 2)) - 1) - k))), (6, .int (nI (pL (plOn nr nc (tt / 2) ((szOf nr nc (tt / 2)) - 1))))), (5, .int (nI 0)), (4, .int (nI ((szOf nr nc (tt / 2)) - 1))), (3, .int (nI (tt / 2))), (0, .ref ph), (1, .ref (pd 0)), (2, .int (nI tt))]) hx hb dX2_turns_2_113 hl (k := 2) rfl (nI_add _ _) (by decide) rfl (fun ls hl => ?_)
          refine lv_goto (tgt := 50) hx hb dX2_turns_2_116 (by decide) ?_
          exact ih50 (k + 1) (va_up Mx (plOn nr nc (tt / 2) (((szOf nr nc (tt / 2)) - 1) - k)) (Mx (plOn nr nc (tt / 2) ((((szOf nr nc (tt / 2)) - 1) - k) - 1)))) (by omega) (by omega) (by rw [hM]; simp [rtN, c17]) (up_lt hB (hB _)) _ _ _ hP hD hS (lv_sub hl [0, 3, 4, 5, 6, 7, 8, 9] rfl)
    exact lp50 _ 0 pL (Nat.lt_succ_self _) (by omega) rfl hL _ _ _ hP hD hS (lv_sub hl [0, 1, 2, 3, 4, 5, 6, 7] rfl)
  · skip
    refine lv_iconst (v := nI 1) hx hb dX2_turns_2_20 (by decide) ?_
    refine lv_goto (tgt := 25) hx hb dX2_turns_2_21 (by decide) ?_
    refine lv_istore (lv' := [(5, .int (nI 1)), (4, .int (nI ((szOf nr nc (tt / 2)) - 1))), (3, .int (nI (tt / 2))), (0, .ref ph), (1, .ref (pd 0)), (2, .int (nI tt))]) hx hb dX2_turns_2_25 hl (by decide) rfl (fun ls hl => ?_)
    refine lv_aload_n hx hb dX2_turns_2_27 rfl (lv_at hl 4 rfl) ?_
    refine lv_aload_n hx hb dX2_turns_2_28 rfl (lv_at hl 3 rfl) ?_
    refine lv_iload_n hx hb dX2_turns_2_29 rfl (lv_at hl 2 rfl) ?_
    refine lv_iload hx hb dX2_turns_2_30 (lv_at hl 0 rfl) ?_
    refine n_if_eq (tgt := 39) hx hb dX2_turns_2_32 (by decide) (by decide) (fun c32 => ?_) (fun c32 => ?_)
    · exact absurd c32 (by decide)
    refine lv_iconst (v := nI 0) hx hb dX2_turns_2_35 (by decide) ?_
    refine lv_goto (tgt := 41) hx hb dX2_turns_2_36 (by decide) ?_
    refine callVi (As := [.int (nI (tt / 2)), .int (nI 0)]) (rest := [.ref (pd 0)]) (wc := (PW G ph pd nr nc pL pG pB pk pa pt pm)) (wr := ([] : va_W)) ⟨hx, hb, hml, hown, hts⟩ (m_X2_placeOn l G ph pd nr nc pL pG pB pk pa pt pm (tt / 2) 0 (by first | assumption | omega) (by first | assumption | omega)) (cwV 2 hts (lw_V q588 q589 q590 q89 q591) rfl rfl rfl (by decide +kernel) ⟨Nat.le_of_ble_eq_true rfl, Nat.le_of_ble_eq_true rfl⟩) hK hZ hA hP hD hS [0, 1, 2, 3, 4, 5] [] rfl rfl (by decide) (by decide) (by decide) 0 1 rfl rfl rfl hl.1 (Nat.le_of_ble_eq_true rfl) ⟨Nat.le_of_ble_eq_true rfl, Nat.le_of_ble_eq_true rfl⟩ rfl dX2_turns_2_41 (fun r9 u9 H locs hw9 hP hD hS => ?_)
    subst hw9
    have hP : va_P G.1 CL (PW G ph pd nr nc pL pG pB pk pa pt pm) _ := hP
    have hD : va_D A (PW G ph pd nr nc pL pG pB pk pa pt pm) := hD
    refine n_cald hx hb hK hP 1 2 rfl rfl (plOn_lt hd (by omega) (by omega)).2 (by decide) dX2_turns_2_44 ?_
    refine lv_istore (lv' := [(6, .int (nI (pL (plOn nr nc (tt / 2) 0)))), (5, .int (nI 1)), (4, .int (nI ((szOf nr nc (tt / 2)) - 1))), (3, .int (nI (tt / 2))), (0, .ref ph), (1, .ref (pd 0)), (2, .int (nI tt))]) hx hb dX2_turns_2_45 hl (by decide) rfl (fun ls hl => ?_)
    refine lv_iconst (v := nI 0) hx hb dX2_turns_2_47 (by decide) ?_
    refine lv_istore (lv' := [(7, .int (nI 0)), (6, .int (nI (pL (plOn nr nc (tt / 2) 0)))), (5, .int (nI 1)), (4, .int (nI ((szOf nr nc (tt / 2)) - 1))), (3, .int (nI (tt / 2))), (0, .ref ph), (1, .ref (pd 0)), (2, .int (nI tt))]) hx hb dX2_turns_2_48 hl (by decide) rfl (fun ls hl => ?_)
    have lp50 : ∀ (f : Nat) (k : Nat) (Mx : Nat → Nat), szOf nr nc (tt / 2) - 1 - k < f → (k ≤ szOf nr nc (tt / 2) - 1) → (Mx = rtN nr nc (tt / 2) (szOf nr nc (tt / 2) - 1) (decide (tt % 2 = 1)) pL k) → (∀ i, Mx i < 65536) → ∀ (H : Heap) (locs : List Loc) (ls : Array Slot), va_P G.1 CL (PW G ph pd nr nc Mx pG pB pk pa pt pm) H → va_D A (PW G ph pd nr nc Mx pG pB pk pa pt pm) → va_S A s.heap H locs → lv_has ls 10 [(7, .int (nI k)), (6, .int (nI (pL (plOn nr nc (tt / 2) 0)))), (5, .int (nI 1)), (4, .int (nI ((szOf nr nc (tt / 2)) - 1))), (3, .int (nI (tt / 2))), (0, .ref ph), (1, .ref (pd 0)), (2, .int (nI tt))] → W p l e (⟨1, 0, 0, 22⟩ : Room) s m args below meth cd H locs 0 0 Q (F0 m 50 ls []) := by
      intro f
      induction f with
      | zero => intro k Mx hf; exact absurd hf (Nat.not_lt_zero _)
      | succ f ih50 =>
        intro k Mx hf hk hM hB H locs ls hP hD hS hl
        refine lv_iload hx hb dX2_turns_2_50 (lv_at hl 0 rfl) ?_
        refine lv_iload hx hb dX2_turns_2_52 (lv_at hl 3 rfl) ?_
        refine n_cmp_ge (tgt := 119) hx hb dX2_turns_2_54 (by decide) (by omega) (by omega) (fun c54 => ?_) (fun c54 => ?_)
        · skip
          refine lv_aload_n hx hb dX2_turns_2_119 rfl (lv_at hl 6 rfl) ?_
          refine lv_aload_n hx hb dX2_turns_2_120 rfl (lv_at hl 5 rfl) ?_
          refine lv_iload_n hx hb dX2_turns_2_121 rfl (lv_at hl 4 rfl) ?_
          refine lv_iload hx hb dX2_turns_2_122 (lv_at hl 2 rfl) ?_
          refine n_if_eq (tgt := 132) hx hb dX2_turns_2_124 (by decide) (by decide) (fun c124 => ?_) (fun c124 => ?_)
          · exact absurd c124 (by decide)
          refine lv_iload hx hb dX2_turns_2_127 (lv_at hl 3 rfl) ?_
          refine lv_goto (tgt := 133) hx hb dX2_turns_2_129 (by decide) ?_
          refine callVi (As := [.int (nI (tt / 2)), .int (nI ((szOf nr nc (tt / 2)) - 1))]) (rest := [.ref (pd 0)]) (wc := (PW G ph pd nr nc Mx pG pB pk pa pt pm)) (wr := ([] : va_W)) ⟨hx, hb, hml, hown, hts⟩ (m_X2_placeOn l G ph pd nr nc Mx pG pB pk pa pt pm (tt / 2) ((szOf nr nc (tt / 2)) - 1) (by first | assumption | omega) (by first | assumption | omega)) (cwV 2 hts (lw_V q588 q589 q590 q89 q591) rfl rfl rfl (by decide +kernel) ⟨Nat.le_of_ble_eq_true rfl, Nat.le_of_ble_eq_true rfl⟩) hK hZ hA hP hD hS [0, 1, 2, 3, 4, 5] [] rfl rfl (by decide) (by decide) (by decide) 0 1 rfl rfl rfl hl.1 (Nat.le_of_ble_eq_true rfl) ⟨Nat.le_of_ble_eq_true rfl, Nat.le_of_ble_eq_true rfl⟩ rfl dX2_turns_2_133 (fun r9 u9 H locs hw9 hP hD hS => ?_)
          subst hw9
          have hP : va_P G.1 CL (PW G ph pd nr nc Mx pG pB pk pa pt pm) _ := hP
          have hD : va_D A (PW G ph pd nr nc Mx pG pB pk pa pt pm) := hD
          refine lv_iload hx hb dX2_turns_2_136 (lv_at hl 1 rfl) ?_
          refine n_cast hx hb hK hP hD hS 1 2 rfl rfl (plOn_lt hd (by omega) (by omega)).2 (by decide) (hL _) dX2_turns_2_138 (fun H locs hP hD hS => ?_)
          have hP : va_P G.1 CL (PW G ph pd nr nc (va_up Mx (plOn nr nc (tt / 2) ((szOf nr nc (tt / 2)) - 1)) (pL (plOn nr nc (tt / 2) 0))) pG pB pk pa pt pm) _ := hP
          have hD : va_D A (PW G ph pd nr nc (va_up Mx (plOn nr nc (tt / 2) ((szOf nr nc (tt / 2)) - 1)) (pL (plOn nr nc (tt / 2) 0))) pG pB pk pa pt pm) := hD
          have e_L : (va_up Mx (plOn nr nc (tt / 2) ((szOf nr nc (tt / 2)) - 1)) (pL (plOn nr nc (tt / 2) 0))) = (tn nr nc tt pL) := (by first | (rw [hM, show k = szOf nr nc (tt / 2) - 1 by omega]; exact rt_b hd ht0 c17 pL) | (rw [hM, show k = szOf nr nc (tt / 2) - 1 by omega]; exact rt_f hd ht0 c17 pL))
          rw [e_L] at hP hD
          subst hQ
          exact ret_v hx hb hr hlk () trivial hP hD hS dX2_turns_2_139
        · skip
          refine lv_iload hx hb dX2_turns_2_57 (lv_at hl 2 rfl) ?_
          refine n_if_eq (tgt := 67) hx hb dX2_turns_2_59 (by decide) (by decide) (fun c59 => ?_) (fun c59 => ?_)
          · exact absurd c59 (by decide)
          refine lv_iload hx hb dX2_turns_2_62 (lv_at hl 0 rfl) ?_
          refine lv_goto (tgt := 72) hx hb dX2_turns_2_64 (by decide) ?_
          refine lv_istore (lv' := [(8, .int (nI k)), (7, .int (nI k)), (6, .int (nI (pL (plOn nr nc (tt / 2) 0)))), (5, .int (nI 1)), (4, .int (nI ((szOf nr nc (tt / 2)) - 1))), (3, .int (nI (tt / 2))), (0, .ref ph), (1, .ref (pd 0)), (2, .int (nI tt))]) hx hb dX2_turns_2_72 hl (by decide) rfl (fun ls hl => ?_)
          refine lv_iload hx hb dX2_turns_2_74 (lv_at hl 3 rfl) ?_
          refine n_if_eq (tgt := 86) hx hb dX2_turns_2_76 (by decide) (by decide) (fun c76 => ?_) (fun c76 => ?_)
          · exact absurd c76 (by decide)
          refine lv_iload hx hb dX2_turns_2_79 (lv_at hl 1 rfl) ?_
          refine lv_iconst (v := nI 1) hx hb dX2_turns_2_81 (by decide) ?_
          refine n_iadd hx hb dX2_turns_2_82 ?_
          refine lv_goto (tgt := 93) hx hb dX2_turns_2_83 (by decide) ?_
          refine lv_istore (lv' := [(9, .int (nI (k + 1))), (8, .int (nI k)), (7, .int (nI k)), (6, .int (nI (pL (plOn nr nc (tt / 2) 0)))), (5, .int (nI 1)), (4, .int (nI ((szOf nr nc (tt / 2)) - 1))), (3, .int (nI (tt / 2))), (0, .ref ph), (1, .ref (pd 0)), (2, .int (nI tt))]) hx hb dX2_turns_2_93 hl (by decide) rfl (fun ls hl => ?_)
          refine lv_aload_n hx hb dX2_turns_2_95 rfl (lv_at hl 8 rfl) ?_
          refine lv_aload_n hx hb dX2_turns_2_96 rfl (lv_at hl 7 rfl) ?_
          refine lv_iload_n hx hb dX2_turns_2_97 rfl (lv_at hl 6 rfl) ?_
          refine lv_iload hx hb dX2_turns_2_98 (lv_at hl 1 rfl) ?_
          refine callVi (As := [.int (nI (tt / 2)), .int (nI k)]) (rest := [.ref (pd 0)]) (wc := (PW G ph pd nr nc Mx pG pB pk pa pt pm)) (wr := ([] : va_W)) ⟨hx, hb, hml, hown, hts⟩ (m_X2_placeOn l G ph pd nr nc Mx pG pB pk pa pt pm (tt / 2) k (by first | assumption | omega) (by first | assumption | omega)) (cwV 2 hts (lw_V q588 q589 q590 q89 q591) rfl rfl rfl (by decide +kernel) ⟨Nat.le_of_ble_eq_true rfl, Nat.le_of_ble_eq_true rfl⟩) hK hZ hA hP hD hS [0, 1, 2, 3, 4, 5] [] rfl rfl (by decide) (by decide) (by decide) 0 1 rfl rfl rfl hl.1 (Nat.le_of_ble_eq_true rfl) ⟨Nat.le_of_ble_eq_true rfl, Nat.le_of_ble_eq_true rfl⟩ rfl dX2_turns_2_100 (fun r9 u9 H locs hw9 hP hD hS => ?_)
          subst hw9
          have hP : va_P G.1 CL (PW G ph pd nr nc Mx pG pB pk pa pt pm) _ := hP
          have hD : va_D A (PW G ph pd nr nc Mx pG pB pk pa pt pm) := hD
          refine lv_aload_n hx hb dX2_turns_2_103 rfl (lv_at hl 8 rfl) ?_
          refine lv_aload_n hx hb dX2_turns_2_104 rfl (lv_at hl 7 rfl) ?_
          refine lv_iload_n hx hb dX2_turns_2_105 rfl (lv_at hl 6 rfl) ?_
          refine lv_iload hx hb dX2_turns_2_106 (lv_at hl 0 rfl) ?_
          refine callVi (As := [.int (nI (tt / 2)), .int (nI (k + 1))]) (rest := [.ref (pd 0), .int (nI (plOn nr nc (tt / 2) k)), .ref (pd 0)]) (wc := (PW G ph pd nr nc Mx pG pB pk pa pt pm)) (wr := ([] : va_W)) ⟨hx, hb, hml, hown, hts⟩ (m_X2_placeOn l G ph pd nr nc Mx pG pB pk pa pt pm (tt / 2) (k + 1) (by first | assumption | omega) (by first | assumption | omega)) (cwV 2 hts (lw_V q588 q589 q590 q89 q591) rfl rfl rfl (by decide +kernel) ⟨Nat.le_of_ble_eq_true rfl, Nat.le_of_ble_eq_true rfl⟩) hK hZ hA hP hD hS [0, 1, 2, 3, 4, 5] [] rfl rfl (by decide) (by decide) (by decide) 0 1 rfl rfl rfl hl.1 (Nat.le_of_ble_eq_true rfl) ⟨Nat.le_of_ble_eq_true rfl, Nat.le_of_ble_eq_true rfl⟩ rfl dX2_turns_2_108 (fun r9 u9 H locs hw9 hP hD hS => ?_)
          subst hw9
          have hP : va_P G.1 CL (PW G ph pd nr nc Mx pG pB pk pa pt pm) _ := hP
          have hD : va_D A (PW G ph pd nr nc Mx pG pB pk pa pt pm) := hD
          refine n_cald hx hb hK hP 1 2 rfl rfl (plOn_lt hd (by omega) (by omega)).2 (by decide) dX2_turns_2_111 ?_
          refine n_cast hx hb hK hP hD hS 1 2 rfl rfl (plOn_lt hd (by omega) (by omega)).2 (by decide) (hB _) dX2_turns_2_112 (fun H locs hP hD hS => ?_)
          have hP : va_P G.1 CL (PW G ph pd nr nc (va_up Mx (plOn nr nc (tt / 2) k) (Mx (plOn nr nc (tt / 2) (k + 1)))) pG pB pk pa pt pm) _ := hP
          have hD : va_D A (PW G ph pd nr nc (va_up Mx (plOn nr nc (tt / 2) k) (Mx (plOn nr nc (tt / 2) (k + 1)))) pG pB pk pa pt pm) := hD
          refine lv_iinc (v := nI (k + 1)) (lv' := [(7, .int (nI (k + 1))), (9, .int (nI (k + 1))), (8, .int (nI k)), (6, .int (nI (pL (plOn nr nc (tt / 2) 0)))), (5, .int (nI 1)), (4, .int (nI ((szOf nr nc (tt / 2)) - 1))), (3, .int (nI (tt / 2))), (0, .ref ph), (1, .ref (pd 0)), (2, .int (nI tt))]) hx hb dX2_turns_2_113 hl (k := 2) rfl (nI_add _ _) (by decide) rfl (fun ls hl => ?_)
          refine lv_goto (tgt := 50) hx hb dX2_turns_2_116 (by decide) ?_
          exact ih50 (k + 1) (va_up Mx (plOn nr nc (tt / 2) k) (Mx (plOn nr nc (tt / 2) (k + 1)))) (by omega) (by omega) (by rw [hM]; simp [rtN, c17]) (up_lt hB (hB _)) _ _ _ hP hD hS (lv_sub hl [0, 3, 4, 5, 6, 7, 8, 9] rfl)
    exact lp50 _ 0 pL (Nat.lt_succ_self _) (by omega) rfl hL _ _ _ hP hD hS (lv_sub hl [0, 1, 2, 3, 4, 5, 6, 7] rfl)
set_option maxHeartbeats 4000000 in
set_option maxRecDepth 100000 in
theorem m_X2_turns_2__G (l : Launch) (G : GG) (ph : Nat) (pd : Nat → Nat) (nr : Nat) (nc : Nat) (pL : Nat → Nat) (pG : Nat → Nat) (pB : Nat → Bool) (pk : Nat → Int32) (pa : Nat → Nat) (pt : Nat → Nat) (pm : Nat) (tt : Nat) (hd : 2 ≤ nr ∧ nr ≤ 3 ∧ 2 ≤ nc ∧ nc ≤ 3) (ht0 : tt < 2 * (nr + nc)) (hL : ∀ i, pG i < 65536) : MM l G yX2_turns_2 cX2_turns_2 10 none ⟨1, 0, 0, 22⟩ [.ref ph, .ref (pd 1), .int (nI tt)] (PW G ph pd nr nc pL pG pB pk pa pt pm) (Qv_ G (fun (_ : Unit) => True) (fun (_ : Unit) => (PW G ph pd nr nc pL (tn nr nc tt pG) pB pk pa pt pm))) := by
  refine MM.of (by decide) (Nat.le_of_ble_eq_true rfl) ?_
  intro p e s m args below meth cd A C hini hA hK hZ hP hD ls hl
  generalize hQ : MQ below ((Qv_ G (fun (_ : Unit) => True) (fun (_ : Unit) => (PW G ph pd nr nc pL (tn nr nc tt pG) pB pk pa pt pm))) A) args s (⟨1, 0, 0, 22⟩ : Room).cells (⟨1, 0, 0, 22⟩ : Room).slots A = Q
  obtain ⟨hx, hb, hr, hts, hown, hlk, hml⟩ := C
  have hown : s.vm.findClass RX2 = some m.cls := hown
  have hS : va_S A s.heap s.heap [] := va_S.rf
  have hl : lv_has ls 10 [(0, .ref ph), (1, .ref (pd 1)), (2, .int (nI tt))] := hl
  have hmu := dm_mul hd
  have hz := szOf_lt (line := tt / 2) hd
  refine lv_iload_n hx hb dX2_turns_2_0 rfl (lv_at hl 2 rfl) ?_
  refine lv_iconst (v := nI 2) hx hb dX2_turns_2_1 (by decide) ?_
  refine n_idiv hx hb (by omega) (by omega) (by omega) dX2_turns_2_2 ?_
  refine lv_istore_n (lv' := [(3, .int (nI (tt / 2))), (0, .ref ph), (1, .ref (pd 1)), (2, .int (nI tt))]) hx hb dX2_turns_2_3 rfl hl (by decide) rfl (fun ls hl => ?_)
  refine lv_aload_n hx hb dX2_turns_2_4 rfl (lv_at hl 1 rfl) ?_
  refine lv_iload_n hx hb dX2_turns_2_5 rfl (lv_at hl 0 rfl) ?_
  refine callVi (As := [.int (nI (tt / 2))]) (rest := []) (wc := (PW G ph pd nr nc pL pG pB pk pa pt pm)) (wr := ([] : va_W)) ⟨hx, hb, hml, hown, hts⟩ (m_X2_sizeOf l G ph pd nr nc pL pG pB pk pa pt pm (tt / 2) (by first | assumption | omega) (by first | assumption | omega)) (cwV 1 hts (lw_V q580 q581 q582 q89 q583) rfl rfl rfl (by decide +kernel) ⟨Nat.le_of_ble_eq_true rfl, Nat.le_of_ble_eq_true rfl⟩) hK hZ hA hP hD hS [0, 1, 2, 3, 4, 5] [] rfl rfl (by decide) (by decide) (by decide) 0 1 rfl rfl rfl hl.1 (Nat.le_of_ble_eq_true rfl) ⟨Nat.le_of_ble_eq_true rfl, Nat.le_of_ble_eq_true rfl⟩ rfl dX2_turns_2_6 (fun r9 u9 H locs hw9 hP hD hS => ?_)
  subst hw9
  have hP : va_P G.1 CL (PW G ph pd nr nc pL pG pB pk pa pt pm) _ := hP
  have hD : va_D A (PW G ph pd nr nc pL pG pB pk pa pt pm) := hD
  refine lv_iconst (v := nI 1) hx hb dX2_turns_2_9 (by decide) ?_
  refine n_isub hx hb (by omega) dX2_turns_2_10 ?_
  refine lv_istore (lv' := [(4, .int (nI ((szOf nr nc (tt / 2)) - 1))), (3, .int (nI (tt / 2))), (0, .ref ph), (1, .ref (pd 1)), (2, .int (nI tt))]) hx hb dX2_turns_2_11 hl (by decide) rfl (fun ls hl => ?_)
  refine lv_iload_n hx hb dX2_turns_2_13 rfl (lv_at hl 4 rfl) ?_
  refine lv_iconst (v := nI 2) hx hb dX2_turns_2_14 (by decide) ?_
  refine n_irem hx hb (by omega) (by omega) (by omega) dX2_turns_2_15 ?_
  refine lv_iconst (v := nI 1) hx hb dX2_turns_2_16 (by decide) ?_
  refine n_cmp_ne (tgt := 24) hx hb dX2_turns_2_17 (by decide) (by omega) (by omega) (fun c17 => ?_) (fun c17 => ?_)
  · skip
    refine lv_iconst (v := nI 0) hx hb dX2_turns_2_24 (by decide) ?_
    refine lv_istore (lv' := [(5, .int (nI 0)), (4, .int (nI ((szOf nr nc (tt / 2)) - 1))), (3, .int (nI (tt / 2))), (0, .ref ph), (1, .ref (pd 1)), (2, .int (nI tt))]) hx hb dX2_turns_2_25 hl (by decide) rfl (fun ls hl => ?_)
    refine lv_aload_n hx hb dX2_turns_2_27 rfl (lv_at hl 4 rfl) ?_
    refine lv_aload_n hx hb dX2_turns_2_28 rfl (lv_at hl 3 rfl) ?_
    refine lv_iload_n hx hb dX2_turns_2_29 rfl (lv_at hl 2 rfl) ?_
    refine lv_iload hx hb dX2_turns_2_30 (lv_at hl 0 rfl) ?_
    refine n_if_eq (tgt := 39) hx hb dX2_turns_2_32 (by decide) (by decide) (fun c32 => ?_) (fun c32 => ?_)
    rotate_left
    · exact absurd c32 (by decide)
    refine lv_iload hx hb dX2_turns_2_39 (lv_at hl 1 rfl) ?_
    refine callVi (As := [.int (nI (tt / 2)), .int (nI ((szOf nr nc (tt / 2)) - 1))]) (rest := [.ref (pd 1)]) (wc := (PW G ph pd nr nc pL pG pB pk pa pt pm)) (wr := ([] : va_W)) ⟨hx, hb, hml, hown, hts⟩ (m_X2_placeOn l G ph pd nr nc pL pG pB pk pa pt pm (tt / 2) ((szOf nr nc (tt / 2)) - 1) (by first | assumption | omega) (by first | assumption | omega)) (cwV 2 hts (lw_V q588 q589 q590 q89 q591) rfl rfl rfl (by decide +kernel) ⟨Nat.le_of_ble_eq_true rfl, Nat.le_of_ble_eq_true rfl⟩) hK hZ hA hP hD hS [0, 1, 2, 3, 4, 5] [] rfl rfl (by decide) (by decide) (by decide) 0 1 rfl rfl rfl hl.1 (Nat.le_of_ble_eq_true rfl) ⟨Nat.le_of_ble_eq_true rfl, Nat.le_of_ble_eq_true rfl⟩ rfl dX2_turns_2_41 (fun r9 u9 H locs hw9 hP hD hS => ?_)
    subst hw9
    have hP : va_P G.1 CL (PW G ph pd nr nc pL pG pB pk pa pt pm) _ := hP
    have hD : va_D A (PW G ph pd nr nc pL pG pB pk pa pt pm) := hD
    refine n_cald hx hb hK hP 2 2 rfl rfl (plOn_lt hd (by omega) (by omega)).2 (by decide) dX2_turns_2_44 ?_
    refine lv_istore (lv' := [(6, .int (nI (pG (plOn nr nc (tt / 2) ((szOf nr nc (tt / 2)) - 1))))), (5, .int (nI 0)), (4, .int (nI ((szOf nr nc (tt / 2)) - 1))), (3, .int (nI (tt / 2))), (0, .ref ph), (1, .ref (pd 1)), (2, .int (nI tt))]) hx hb dX2_turns_2_45 hl (by decide) rfl (fun ls hl => ?_)
    refine lv_iconst (v := nI 0) hx hb dX2_turns_2_47 (by decide) ?_
    refine lv_istore (lv' := [(7, .int (nI 0)), (6, .int (nI (pG (plOn nr nc (tt / 2) ((szOf nr nc (tt / 2)) - 1))))), (5, .int (nI 0)), (4, .int (nI ((szOf nr nc (tt / 2)) - 1))), (3, .int (nI (tt / 2))), (0, .ref ph), (1, .ref (pd 1)), (2, .int (nI tt))]) hx hb dX2_turns_2_48 hl (by decide) rfl (fun ls hl => ?_)
    have lp50 : ∀ (f : Nat) (k : Nat) (Mx : Nat → Nat), szOf nr nc (tt / 2) - 1 - k < f → (k ≤ szOf nr nc (tt / 2) - 1) → (Mx = rtN nr nc (tt / 2) (szOf nr nc (tt / 2) - 1) (decide (tt % 2 = 1)) pG k) → (∀ i, Mx i < 65536) → ∀ (H : Heap) (locs : List Loc) (ls : Array Slot), va_P G.1 CL (PW G ph pd nr nc pL Mx pB pk pa pt pm) H → va_D A (PW G ph pd nr nc pL Mx pB pk pa pt pm) → va_S A s.heap H locs → lv_has ls 10 [(7, .int (nI k)), (6, .int (nI (pG (plOn nr nc (tt / 2) ((szOf nr nc (tt / 2)) - 1))))), (5, .int (nI 0)), (4, .int (nI ((szOf nr nc (tt / 2)) - 1))), (3, .int (nI (tt / 2))), (0, .ref ph), (1, .ref (pd 1)), (2, .int (nI tt))] → W p l e (⟨1, 0, 0, 22⟩ : Room) s m args below meth cd H locs 0 0 Q (F0 m 50 ls []) := by
      intro f
      induction f with
      | zero => intro k Mx hf; exact absurd hf (Nat.not_lt_zero _)
      | succ f ih50 =>
        intro k Mx hf hk hM hB H locs ls hP hD hS hl
        refine lv_iload hx hb dX2_turns_2_50 (lv_at hl 0 rfl) ?_
        refine lv_iload hx hb dX2_turns_2_52 (lv_at hl 3 rfl) ?_
        refine n_cmp_ge (tgt := 119) hx hb dX2_turns_2_54 (by decide) (by omega) (by omega) (fun c54 => ?_) (fun c54 => ?_)
        · skip
          refine lv_aload_n hx hb dX2_turns_2_119 rfl (lv_at hl 6 rfl) ?_
          refine lv_aload_n hx hb dX2_turns_2_120 rfl (lv_at hl 5 rfl) ?_
          refine lv_iload_n hx hb dX2_turns_2_121 rfl (lv_at hl 4 rfl) ?_
          refine lv_iload hx hb dX2_turns_2_122 (lv_at hl 2 rfl) ?_
          refine n_if_eq (tgt := 132) hx hb dX2_turns_2_124 (by decide) (by decide) (fun c124 => ?_) (fun c124 => ?_)
          rotate_left
          · exact absurd c124 (by decide)
          refine lv_iconst (v := nI 0) hx hb dX2_turns_2_132 (by decide) ?_
          refine callVi (As := [.int (nI (tt / 2)), .int (nI 0)]) (rest := [.ref (pd 1)]) (wc := (PW G ph pd nr nc pL Mx pB pk pa pt pm)) (wr := ([] : va_W)) ⟨hx, hb, hml, hown, hts⟩ (m_X2_placeOn l G ph pd nr nc pL Mx pB pk pa pt pm (tt / 2) 0 (by first | assumption | omega) (by first | assumption | omega)) (cwV 2 hts (lw_V q588 q589 q590 q89 q591) rfl rfl rfl (by decide +kernel) ⟨Nat.le_of_ble_eq_true rfl, Nat.le_of_ble_eq_true rfl⟩) hK hZ hA hP hD hS [0, 1, 2, 3, 4, 5] [] rfl rfl (by decide) (by decide) (by decide) 0 1 rfl rfl rfl hl.1 (Nat.le_of_ble_eq_true rfl) ⟨Nat.le_of_ble_eq_true rfl, Nat.le_of_ble_eq_true rfl⟩ rfl dX2_turns_2_133 (fun r9 u9 H locs hw9 hP hD hS => ?_)
          subst hw9
          have hP : va_P G.1 CL (PW G ph pd nr nc pL Mx pB pk pa pt pm) _ := hP
          have hD : va_D A (PW G ph pd nr nc pL Mx pB pk pa pt pm) := hD
          refine lv_iload hx hb dX2_turns_2_136 (lv_at hl 1 rfl) ?_
          refine n_cast hx hb hK hP hD hS 2 2 rfl rfl (plOn_lt hd (by omega) (by omega)).2 (by decide) (hL _) dX2_turns_2_138 (fun H locs hP hD hS => ?_)
          have hP : va_P G.1 CL (PW G ph pd nr nc pL (va_up Mx (plOn nr nc (tt / 2) 0) (pG (plOn nr nc (tt / 2) ((szOf nr nc (tt / 2)) - 1)))) pB pk pa pt pm) _ := hP
          have hD : va_D A (PW G ph pd nr nc pL (va_up Mx (plOn nr nc (tt / 2) 0) (pG (plOn nr nc (tt / 2) ((szOf nr nc (tt / 2)) - 1)))) pB pk pa pt pm) := hD
          have e_K : (va_up Mx (plOn nr nc (tt / 2) 0) (pG (plOn nr nc (tt / 2) ((szOf nr nc (tt / 2)) - 1)))) = (tn nr nc tt pG) := (by first | (rw [hM, show k = szOf nr nc (tt / 2) - 1 by omega]; exact rt_b hd ht0 c17 pG) | (rw [hM, show k = szOf nr nc (tt / 2) - 1 by omega]; exact rt_f hd ht0 c17 pG))
          rw [e_K] at hP hD
          subst hQ
          exact ret_v hx hb hr hlk () trivial hP hD hS dX2_turns_2_139
        · skip
          refine lv_iload hx hb dX2_turns_2_57 (lv_at hl 2 rfl) ?_
          refine n_if_eq (tgt := 67) hx hb dX2_turns_2_59 (by decide) (by decide) (fun c59 => ?_) (fun c59 => ?_)
          rotate_left
          · exact absurd c59 (by decide)
          refine lv_iload hx hb dX2_turns_2_67 (lv_at hl 3 rfl) ?_
          refine lv_iload hx hb dX2_turns_2_69 (lv_at hl 0 rfl) ?_
          refine n_isub hx hb (by omega) dX2_turns_2_71 ?_
          refine lv_istore (lv' := [(8, .int (nI (((szOf nr nc (tt / 2)) - 1) - k))), (7, .int (nI k)), (6, .int (nI (pG (plOn nr nc (tt / 2) ((szOf nr nc (tt / 2)) - 1))))), (5, .int (nI 0)), (4, .int (nI ((szOf nr nc (tt / 2)) - 1))), (3, .int (nI (tt / 2))), (0, .ref ph), (1, .ref (pd 1)), (2, .int (nI tt))]) hx hb dX2_turns_2_72 hl (by decide) rfl (fun ls hl => ?_)
          refine lv_iload hx hb dX2_turns_2_74 (lv_at hl 3 rfl) ?_
          refine n_if_eq (tgt := 86) hx hb dX2_turns_2_76 (by decide) (by decide) (fun c76 => ?_) (fun c76 => ?_)
          rotate_left
          · exact absurd c76 (by decide)
          refine lv_iload hx hb dX2_turns_2_86 (lv_at hl 4 rfl) ?_
          refine lv_iload hx hb dX2_turns_2_88 (lv_at hl 1 rfl) ?_
          refine n_isub hx hb (by omega) dX2_turns_2_90 ?_
          refine lv_iconst (v := nI 1) hx hb dX2_turns_2_91 (by decide) ?_
          refine n_isub hx hb (by omega) dX2_turns_2_92 ?_
          refine lv_istore (lv' := [(9, .int (nI ((((szOf nr nc (tt / 2)) - 1) - k) - 1))), (8, .int (nI (((szOf nr nc (tt / 2)) - 1) - k))), (7, .int (nI k)), (6, .int (nI (pG (plOn nr nc (tt / 2) ((szOf nr nc (tt / 2)) - 1))))), (5, .int (nI 0)), (4, .int (nI ((szOf nr nc (tt / 2)) - 1))), (3, .int (nI (tt / 2))), (0, .ref ph), (1, .ref (pd 1)), (2, .int (nI tt))]) hx hb dX2_turns_2_93 hl (by decide) rfl (fun ls hl => ?_)
          refine lv_aload_n hx hb dX2_turns_2_95 rfl (lv_at hl 8 rfl) ?_
          refine lv_aload_n hx hb dX2_turns_2_96 rfl (lv_at hl 7 rfl) ?_
          refine lv_iload_n hx hb dX2_turns_2_97 rfl (lv_at hl 6 rfl) ?_
          refine lv_iload hx hb dX2_turns_2_98 (lv_at hl 1 rfl) ?_
          refine callVi (As := [.int (nI (tt / 2)), .int (nI (((szOf nr nc (tt / 2)) - 1) - k))]) (rest := [.ref (pd 1)]) (wc := (PW G ph pd nr nc pL Mx pB pk pa pt pm)) (wr := ([] : va_W)) ⟨hx, hb, hml, hown, hts⟩ (m_X2_placeOn l G ph pd nr nc pL Mx pB pk pa pt pm (tt / 2) (((szOf nr nc (tt / 2)) - 1) - k) (by first | assumption | omega) (by first | assumption | omega)) (cwV 2 hts (lw_V q588 q589 q590 q89 q591) rfl rfl rfl (by decide +kernel) ⟨Nat.le_of_ble_eq_true rfl, Nat.le_of_ble_eq_true rfl⟩) hK hZ hA hP hD hS [0, 1, 2, 3, 4, 5] [] rfl rfl (by decide) (by decide) (by decide) 0 1 rfl rfl rfl hl.1 (Nat.le_of_ble_eq_true rfl) ⟨Nat.le_of_ble_eq_true rfl, Nat.le_of_ble_eq_true rfl⟩ rfl dX2_turns_2_100 (fun r9 u9 H locs hw9 hP hD hS => ?_)
          subst hw9
          have hP : va_P G.1 CL (PW G ph pd nr nc pL Mx pB pk pa pt pm) _ := hP
          have hD : va_D A (PW G ph pd nr nc pL Mx pB pk pa pt pm) := hD
          refine lv_aload_n hx hb dX2_turns_2_103 rfl (lv_at hl 8 rfl) ?_
          refine lv_aload_n hx hb dX2_turns_2_104 rfl (lv_at hl 7 rfl) ?_
          refine lv_iload_n hx hb dX2_turns_2_105 rfl (lv_at hl 6 rfl) ?_
          refine lv_iload hx hb dX2_turns_2_106 (lv_at hl 0 rfl) ?_
          refine callVi (As := [.int (nI (tt / 2)), .int (nI ((((szOf nr nc (tt / 2)) - 1) - k) - 1))]) (rest := [.ref (pd 1), .int (nI (plOn nr nc (tt / 2) (((szOf nr nc (tt / 2)) - 1) - k))), .ref (pd 1)]) (wc := (PW G ph pd nr nc pL Mx pB pk pa pt pm)) (wr := ([] : va_W)) ⟨hx, hb, hml, hown, hts⟩ (m_X2_placeOn l G ph pd nr nc pL Mx pB pk pa pt pm (tt / 2) ((((szOf nr nc (tt / 2)) - 1) - k) - 1) (by first | assumption | omega) (by first | assumption | omega)) (cwV 2 hts (lw_V q588 q589 q590 q89 q591) rfl rfl rfl (by decide +kernel) ⟨Nat.le_of_ble_eq_true rfl, Nat.le_of_ble_eq_true rfl⟩) hK hZ hA hP hD hS [0, 1, 2, 3, 4, 5] [] rfl rfl (by decide) (by decide) (by decide) 0 1 rfl rfl rfl hl.1 (Nat.le_of_ble_eq_true rfl) ⟨Nat.le_of_ble_eq_true rfl, Nat.le_of_ble_eq_true rfl⟩ rfl dX2_turns_2_108 (fun r9 u9 H locs hw9 hP hD hS => ?_)
          subst hw9
          have hP : va_P G.1 CL (PW G ph pd nr nc pL Mx pB pk pa pt pm) _ := hP
          have hD : va_D A (PW G ph pd nr nc pL Mx pB pk pa pt pm) := hD
          refine n_cald hx hb hK hP 2 2 rfl rfl (plOn_lt hd (by omega) (by omega)).2 (by decide) dX2_turns_2_111 ?_
          refine n_cast hx hb hK hP hD hS 2 2 rfl rfl (plOn_lt hd (by omega) (by omega)).2 (by decide) (hB _) dX2_turns_2_112 (fun H locs hP hD hS => ?_)
          have hP : va_P G.1 CL (PW G ph pd nr nc pL (va_up Mx (plOn nr nc (tt / 2) (((szOf nr nc (tt / 2)) - 1) - k)) (Mx (plOn nr nc (tt / 2) ((((szOf nr nc (tt / 2)) - 1) - k) - 1)))) pB pk pa pt pm) _ := hP
          have hD : va_D A (PW G ph pd nr nc pL (va_up Mx (plOn nr nc (tt / 2) (((szOf nr nc (tt / 2)) - 1) - k)) (Mx (plOn nr nc (tt / 2) ((((szOf nr nc (tt / 2)) - 1) - k) - 1)))) pB pk pa pt pm) := hD
          refine lv_iinc (v := nI (k + 1)) (lv' := [(7, .int (nI (k + 1))), (9, .int (nI ((((szOf nr nc (tt / 2)) - 1) - k) - 1))), (8, .int (nI (((szOf nr nc (tt / 2)) - 1) - k))), (6, .int (nI (pG (plOn nr nc (tt / 2) ((szOf nr nc (tt / 2)) - 1))))), (5, .int (nI 0)), (4, .int (nI ((szOf nr nc (tt / 2)) - 1))), (3, .int (nI (tt / 2))), (0, .ref ph), (1, .ref (pd 1)), (2, .int (nI tt))]) hx hb dX2_turns_2_113 hl (k := 2) rfl (nI_add _ _) (by decide) rfl (fun ls hl => ?_)
          refine lv_goto (tgt := 50) hx hb dX2_turns_2_116 (by decide) ?_
          exact ih50 (k + 1) (va_up Mx (plOn nr nc (tt / 2) (((szOf nr nc (tt / 2)) - 1) - k)) (Mx (plOn nr nc (tt / 2) ((((szOf nr nc (tt / 2)) - 1) - k) - 1)))) (by omega) (by omega) (by rw [hM]; simp [rtN, c17]) (up_lt hB (hB _)) _ _ _ hP hD hS (lv_sub hl [0, 3, 4, 5, 6, 7, 8, 9] rfl)
    exact lp50 _ 0 pG (Nat.lt_succ_self _) (by omega) rfl hL _ _ _ hP hD hS (lv_sub hl [0, 1, 2, 3, 4, 5, 6, 7] rfl)
  · skip
    refine lv_iconst (v := nI 1) hx hb dX2_turns_2_20 (by decide) ?_
    refine lv_goto (tgt := 25) hx hb dX2_turns_2_21 (by decide) ?_
    refine lv_istore (lv' := [(5, .int (nI 1)), (4, .int (nI ((szOf nr nc (tt / 2)) - 1))), (3, .int (nI (tt / 2))), (0, .ref ph), (1, .ref (pd 1)), (2, .int (nI tt))]) hx hb dX2_turns_2_25 hl (by decide) rfl (fun ls hl => ?_)
    refine lv_aload_n hx hb dX2_turns_2_27 rfl (lv_at hl 4 rfl) ?_
    refine lv_aload_n hx hb dX2_turns_2_28 rfl (lv_at hl 3 rfl) ?_
    refine lv_iload_n hx hb dX2_turns_2_29 rfl (lv_at hl 2 rfl) ?_
    refine lv_iload hx hb dX2_turns_2_30 (lv_at hl 0 rfl) ?_
    refine n_if_eq (tgt := 39) hx hb dX2_turns_2_32 (by decide) (by decide) (fun c32 => ?_) (fun c32 => ?_)
    · exact absurd c32 (by decide)
    refine lv_iconst (v := nI 0) hx hb dX2_turns_2_35 (by decide) ?_
    refine lv_goto (tgt := 41) hx hb dX2_turns_2_36 (by decide) ?_
    refine callVi (As := [.int (nI (tt / 2)), .int (nI 0)]) (rest := [.ref (pd 1)]) (wc := (PW G ph pd nr nc pL pG pB pk pa pt pm)) (wr := ([] : va_W)) ⟨hx, hb, hml, hown, hts⟩ (m_X2_placeOn l G ph pd nr nc pL pG pB pk pa pt pm (tt / 2) 0 (by first | assumption | omega) (by first | assumption | omega)) (cwV 2 hts (lw_V q588 q589 q590 q89 q591) rfl rfl rfl (by decide +kernel) ⟨Nat.le_of_ble_eq_true rfl, Nat.le_of_ble_eq_true rfl⟩) hK hZ hA hP hD hS [0, 1, 2, 3, 4, 5] [] rfl rfl (by decide) (by decide) (by decide) 0 1 rfl rfl rfl hl.1 (Nat.le_of_ble_eq_true rfl) ⟨Nat.le_of_ble_eq_true rfl, Nat.le_of_ble_eq_true rfl⟩ rfl dX2_turns_2_41 (fun r9 u9 H locs hw9 hP hD hS => ?_)
    subst hw9
    have hP : va_P G.1 CL (PW G ph pd nr nc pL pG pB pk pa pt pm) _ := hP
    have hD : va_D A (PW G ph pd nr nc pL pG pB pk pa pt pm) := hD
    refine n_cald hx hb hK hP 2 2 rfl rfl (plOn_lt hd (by omega) (by omega)).2 (by decide) dX2_turns_2_44 ?_
    refine lv_istore (lv' := [(6, .int (nI (pG (plOn nr nc (tt / 2) 0)))), (5, .int (nI 1)), (4, .int (nI ((szOf nr nc (tt / 2)) - 1))), (3, .int (nI (tt / 2))), (0, .ref ph), (1, .ref (pd 1)), (2, .int (nI tt))]) hx hb dX2_turns_2_45 hl (by decide) rfl (fun ls hl => ?_)
    refine lv_iconst (v := nI 0) hx hb dX2_turns_2_47 (by decide) ?_
    refine lv_istore (lv' := [(7, .int (nI 0)), (6, .int (nI (pG (plOn nr nc (tt / 2) 0)))), (5, .int (nI 1)), (4, .int (nI ((szOf nr nc (tt / 2)) - 1))), (3, .int (nI (tt / 2))), (0, .ref ph), (1, .ref (pd 1)), (2, .int (nI tt))]) hx hb dX2_turns_2_48 hl (by decide) rfl (fun ls hl => ?_)
    have lp50 : ∀ (f : Nat) (k : Nat) (Mx : Nat → Nat), szOf nr nc (tt / 2) - 1 - k < f → (k ≤ szOf nr nc (tt / 2) - 1) → (Mx = rtN nr nc (tt / 2) (szOf nr nc (tt / 2) - 1) (decide (tt % 2 = 1)) pG k) → (∀ i, Mx i < 65536) → ∀ (H : Heap) (locs : List Loc) (ls : Array Slot), va_P G.1 CL (PW G ph pd nr nc pL Mx pB pk pa pt pm) H → va_D A (PW G ph pd nr nc pL Mx pB pk pa pt pm) → va_S A s.heap H locs → lv_has ls 10 [(7, .int (nI k)), (6, .int (nI (pG (plOn nr nc (tt / 2) 0)))), (5, .int (nI 1)), (4, .int (nI ((szOf nr nc (tt / 2)) - 1))), (3, .int (nI (tt / 2))), (0, .ref ph), (1, .ref (pd 1)), (2, .int (nI tt))] → W p l e (⟨1, 0, 0, 22⟩ : Room) s m args below meth cd H locs 0 0 Q (F0 m 50 ls []) := by
      intro f
      induction f with
      | zero => intro k Mx hf; exact absurd hf (Nat.not_lt_zero _)
      | succ f ih50 =>
        intro k Mx hf hk hM hB H locs ls hP hD hS hl
        refine lv_iload hx hb dX2_turns_2_50 (lv_at hl 0 rfl) ?_
        refine lv_iload hx hb dX2_turns_2_52 (lv_at hl 3 rfl) ?_
        refine n_cmp_ge (tgt := 119) hx hb dX2_turns_2_54 (by decide) (by omega) (by omega) (fun c54 => ?_) (fun c54 => ?_)
        · skip
          refine lv_aload_n hx hb dX2_turns_2_119 rfl (lv_at hl 6 rfl) ?_
          refine lv_aload_n hx hb dX2_turns_2_120 rfl (lv_at hl 5 rfl) ?_
          refine lv_iload_n hx hb dX2_turns_2_121 rfl (lv_at hl 4 rfl) ?_
          refine lv_iload hx hb dX2_turns_2_122 (lv_at hl 2 rfl) ?_
          refine n_if_eq (tgt := 132) hx hb dX2_turns_2_124 (by decide) (by decide) (fun c124 => ?_) (fun c124 => ?_)
          · exact absurd c124 (by decide)
          refine lv_iload hx hb dX2_turns_2_127 (lv_at hl 3 rfl) ?_
          refine lv_goto (tgt := 133) hx hb dX2_turns_2_129 (by decide) ?_
          refine callVi (As := [.int (nI (tt / 2)), .int (nI ((szOf nr nc (tt / 2)) - 1))]) (rest := [.ref (pd 1)]) (wc := (PW G ph pd nr nc pL Mx pB pk pa pt pm)) (wr := ([] : va_W)) ⟨hx, hb, hml, hown, hts⟩ (m_X2_placeOn l G ph pd nr nc pL Mx pB pk pa pt pm (tt / 2) ((szOf nr nc (tt / 2)) - 1) (by first | assumption | omega) (by first | assumption | omega)) (cwV 2 hts (lw_V q588 q589 q590 q89 q591) rfl rfl rfl (by decide +kernel) ⟨Nat.le_of_ble_eq_true rfl, Nat.le_of_ble_eq_true rfl⟩) hK hZ hA hP hD hS [0, 1, 2, 3, 4, 5] [] rfl rfl (by decide) (by decide) (by decide) 0 1 rfl rfl rfl hl.1 (Nat.le_of_ble_eq_true rfl) ⟨Nat.le_of_ble_eq_true rfl, Nat.le_of_ble_eq_true rfl⟩ rfl dX2_turns_2_133 (fun r9 u9 H locs hw9 hP hD hS => ?_)
          subst hw9
          have hP : va_P G.1 CL (PW G ph pd nr nc pL Mx pB pk pa pt pm) _ := hP
          have hD : va_D A (PW G ph pd nr nc pL Mx pB pk pa pt pm) := hD
          refine lv_iload hx hb dX2_turns_2_136 (lv_at hl 1 rfl) ?_
          refine n_cast hx hb hK hP hD hS 2 2 rfl rfl (plOn_lt hd (by omega) (by omega)).2 (by decide) (hL _) dX2_turns_2_138 (fun H locs hP hD hS => ?_)
          have hP : va_P G.1 CL (PW G ph pd nr nc pL (va_up Mx (plOn nr nc (tt / 2) ((szOf nr nc (tt / 2)) - 1)) (pG (plOn nr nc (tt / 2) 0))) pB pk pa pt pm) _ := hP
          have hD : va_D A (PW G ph pd nr nc pL (va_up Mx (plOn nr nc (tt / 2) ((szOf nr nc (tt / 2)) - 1)) (pG (plOn nr nc (tt / 2) 0))) pB pk pa pt pm) := hD
          have e_K : (va_up Mx (plOn nr nc (tt / 2) ((szOf nr nc (tt / 2)) - 1)) (pG (plOn nr nc (tt / 2) 0))) = (tn nr nc tt pG) := (by first | (rw [hM, show k = szOf nr nc (tt / 2) - 1 by omega]; exact rt_b hd ht0 c17 pG) | (rw [hM, show k = szOf nr nc (tt / 2) - 1 by omega]; exact rt_f hd ht0 c17 pG))
          rw [e_K] at hP hD
          subst hQ
          exact ret_v hx hb hr hlk () trivial hP hD hS dX2_turns_2_139
        · skip
          refine lv_iload hx hb dX2_turns_2_57 (lv_at hl 2 rfl) ?_
          refine n_if_eq (tgt := 67) hx hb dX2_turns_2_59 (by decide) (by decide) (fun c59 => ?_) (fun c59 => ?_)
          · exact absurd c59 (by decide)
          refine lv_iload hx hb dX2_turns_2_62 (lv_at hl 0 rfl) ?_
          refine lv_goto (tgt := 72) hx hb dX2_turns_2_64 (by decide) ?_
          refine lv_istore (lv' := [(8, .int (nI k)), (7, .int (nI k)), (6, .int (nI (pG (plOn nr nc (tt / 2) 0)))), (5, .int (nI 1)), (4, .int (nI ((szOf nr nc (tt / 2)) - 1))), (3, .int (nI (tt / 2))), (0, .ref ph), (1, .ref (pd 1)), (2, .int (nI tt))]) hx hb dX2_turns_2_72 hl (by decide) rfl (fun ls hl => ?_)
          refine lv_iload hx hb dX2_turns_2_74 (lv_at hl 3 rfl) ?_
          refine n_if_eq (tgt := 86) hx hb dX2_turns_2_76 (by decide) (by decide) (fun c76 => ?_) (fun c76 => ?_)
          · exact absurd c76 (by decide)
          refine lv_iload hx hb dX2_turns_2_79 (lv_at hl 1 rfl) ?_
          refine lv_iconst (v := nI 1) hx hb dX2_turns_2_81 (by decide) ?_
          refine n_iadd hx hb dX2_turns_2_82 ?_
          refine lv_goto (tgt := 93) hx hb dX2_turns_2_83 (by decide) ?_
          refine lv_istore (lv' := [(9, .int (nI (k + 1))), (8, .int (nI k)), (7, .int (nI k)), (6, .int (nI (pG (plOn nr nc (tt / 2) 0)))), (5, .int (nI 1)), (4, .int (nI ((szOf nr nc (tt / 2)) - 1))), (3, .int (nI (tt / 2))), (0, .ref ph), (1, .ref (pd 1)), (2, .int (nI tt))]) hx hb dX2_turns_2_93 hl (by decide) rfl (fun ls hl => ?_)
          refine lv_aload_n hx hb dX2_turns_2_95 rfl (lv_at hl 8 rfl) ?_
          refine lv_aload_n hx hb dX2_turns_2_96 rfl (lv_at hl 7 rfl) ?_
          refine lv_iload_n hx hb dX2_turns_2_97 rfl (lv_at hl 6 rfl) ?_
          refine lv_iload hx hb dX2_turns_2_98 (lv_at hl 1 rfl) ?_
          refine callVi (As := [.int (nI (tt / 2)), .int (nI k)]) (rest := [.ref (pd 1)]) (wc := (PW G ph pd nr nc pL Mx pB pk pa pt pm)) (wr := ([] : va_W)) ⟨hx, hb, hml, hown, hts⟩ (m_X2_placeOn l G ph pd nr nc pL Mx pB pk pa pt pm (tt / 2) k (by first | assumption | omega) (by first | assumption | omega)) (cwV 2 hts (lw_V q588 q589 q590 q89 q591) rfl rfl rfl (by decide +kernel) ⟨Nat.le_of_ble_eq_true rfl, Nat.le_of_ble_eq_true rfl⟩) hK hZ hA hP hD hS [0, 1, 2, 3, 4, 5] [] rfl rfl (by decide) (by decide) (by decide) 0 1 rfl rfl rfl hl.1 (Nat.le_of_ble_eq_true rfl) ⟨Nat.le_of_ble_eq_true rfl, Nat.le_of_ble_eq_true rfl⟩ rfl dX2_turns_2_100 (fun r9 u9 H locs hw9 hP hD hS => ?_)
          subst hw9
          have hP : va_P G.1 CL (PW G ph pd nr nc pL Mx pB pk pa pt pm) _ := hP
          have hD : va_D A (PW G ph pd nr nc pL Mx pB pk pa pt pm) := hD
          refine lv_aload_n hx hb dX2_turns_2_103 rfl (lv_at hl 8 rfl) ?_
          refine lv_aload_n hx hb dX2_turns_2_104 rfl (lv_at hl 7 rfl) ?_
          refine lv_iload_n hx hb dX2_turns_2_105 rfl (lv_at hl 6 rfl) ?_
          refine lv_iload hx hb dX2_turns_2_106 (lv_at hl 0 rfl) ?_
          refine callVi (As := [.int (nI (tt / 2)), .int (nI (k + 1))]) (rest := [.ref (pd 1), .int (nI (plOn nr nc (tt / 2) k)), .ref (pd 1)]) (wc := (PW G ph pd nr nc pL Mx pB pk pa pt pm)) (wr := ([] : va_W)) ⟨hx, hb, hml, hown, hts⟩ (m_X2_placeOn l G ph pd nr nc pL Mx pB pk pa pt pm (tt / 2) (k + 1) (by first | assumption | omega) (by first | assumption | omega)) (cwV 2 hts (lw_V q588 q589 q590 q89 q591) rfl rfl rfl (by decide +kernel) ⟨Nat.le_of_ble_eq_true rfl, Nat.le_of_ble_eq_true rfl⟩) hK hZ hA hP hD hS [0, 1, 2, 3, 4, 5] [] rfl rfl (by decide) (by decide) (by decide) 0 1 rfl rfl rfl hl.1 (Nat.le_of_ble_eq_true rfl) ⟨Nat.le_of_ble_eq_true rfl, Nat.le_of_ble_eq_true rfl⟩ rfl dX2_turns_2_108 (fun r9 u9 H locs hw9 hP hD hS => ?_)
          subst hw9
          have hP : va_P G.1 CL (PW G ph pd nr nc pL Mx pB pk pa pt pm) _ := hP
          have hD : va_D A (PW G ph pd nr nc pL Mx pB pk pa pt pm) := hD
          refine n_cald hx hb hK hP 2 2 rfl rfl (plOn_lt hd (by omega) (by omega)).2 (by decide) dX2_turns_2_111 ?_
          refine n_cast hx hb hK hP hD hS 2 2 rfl rfl (plOn_lt hd (by omega) (by omega)).2 (by decide) (hB _) dX2_turns_2_112 (fun H locs hP hD hS => ?_)
          have hP : va_P G.1 CL (PW G ph pd nr nc pL (va_up Mx (plOn nr nc (tt / 2) k) (Mx (plOn nr nc (tt / 2) (k + 1)))) pB pk pa pt pm) _ := hP
          have hD : va_D A (PW G ph pd nr nc pL (va_up Mx (plOn nr nc (tt / 2) k) (Mx (plOn nr nc (tt / 2) (k + 1)))) pB pk pa pt pm) := hD
          refine lv_iinc (v := nI (k + 1)) (lv' := [(7, .int (nI (k + 1))), (9, .int (nI (k + 1))), (8, .int (nI k)), (6, .int (nI (pG (plOn nr nc (tt / 2) 0)))), (5, .int (nI 1)), (4, .int (nI ((szOf nr nc (tt / 2)) - 1))), (3, .int (nI (tt / 2))), (0, .ref ph), (1, .ref (pd 1)), (2, .int (nI tt))]) hx hb dX2_turns_2_113 hl (k := 2) rfl (nI_add _ _) (by decide) rfl (fun ls hl => ?_)
          refine lv_goto (tgt := 50) hx hb dX2_turns_2_116 (by decide) ?_
          exact ih50 (k + 1) (va_up Mx (plOn nr nc (tt / 2) k) (Mx (plOn nr nc (tt / 2) (k + 1)))) (by omega) (by omega) (by rw [hM]; simp [rtN, c17]) (up_lt hB (hB _)) _ _ _ hP hD hS (lv_sub hl [0, 3, 4, 5, 6, 7, 8, 9] rfl)
    exact lp50 _ 0 pG (Nat.lt_succ_self _) (by omega) rfl hL _ _ _ hP hD hS (lv_sub hl [0, 1, 2, 3, 4, 5, 6, 7] rfl)
set_option maxHeartbeats 4000000 in
set_option maxRecDepth 100000 in
theorem m_X2_would (l : Launch) (G : GG) (ph : Nat) (pd : Nat → Nat) (nr : Nat) (nc : Nat) (pL : Nat → Nat) (pG : Nat → Nat) (pB : Nat → Bool) (pk : Nat → Int32) (pa : Nat → Nat) (pt : Nat → Nat) (pm : Nat) (tt : Nat) (hd : 2 ≤ nr ∧ nr ≤ 3 ∧ 2 ≤ nc ∧ nc ≤ 3) (ht0 : tt < 2 * (nr + nc)) (hL : ∀ i, pL i < 65536) (hG : ∀ i, pG i < 65536) : MM l G yX2_would cX2_would 3 (some .int) ⟨3, 0, 0, 64⟩ [.ref ph, .int (nI tt)] (PW G ph pd nr nc pL pG pB pk pa pt pm) (Qi_ G (fun (r : Int32) (_ : Unit) => r = nI (hm nr nc (tn nr nc tt pL) pG)) (fun (_ : Unit) => (PW G ph pd nr nc pL pG pB pk pa pt pm))) := by
  refine MM.of (by decide) (Nat.le_of_ble_eq_true rfl) ?_
  intro p e s m args below meth cd A C hini hA hK hZ hP hD ls hl
  generalize hQ : MQ below ((Qi_ G (fun (r : Int32) (_ : Unit) => r = nI (hm nr nc (tn nr nc tt pL) pG)) (fun (_ : Unit) => (PW G ph pd nr nc pL pG pB pk pa pt pm))) A) args s (⟨3, 0, 0, 64⟩ : Room).cells (⟨3, 0, 0, 64⟩ : Room).slots A = Q
  obtain ⟨hx, hb, hr, hts, hown, hlk, hml⟩ := C
  have hown : s.vm.findClass RX2 = some m.cls := hown
  have hS : va_S A s.heap s.heap [] := va_S.rf
  have hl : lv_has ls 3 [(0, .ref ph), (1, .int (nI tt))] := hl
  have hmu := dm_mul hd
  refine lv_aload_n hx hb dX2_would_0 rfl (lv_at hl 0 rfl) ?_
  refine lv_aload_n hx hb dX2_would_1 rfl (lv_at hl 0 rfl) ?_
  refine va_get (D := G.1) (ci := 1) (v := .ref (pd 0)) (C := RX2) (T := TX2) (N := 14) hx hb hts in_X2 hown hK hP 0 rfl rfl 2 (by decide) (hts _ q145) (fun _ h9 => h9) rfl dX2_would_2 ?_
  refine lv_iload_n hx hb dX2_would_5 rfl (lv_at hl 1 rfl) ?_
  refine callVv (As := [.ref (pd 0), .int (nI tt)]) (rest := []) (wc := (PW G ph pd nr nc pL pG pB pk pa pt pm)) (wr := ([] : va_W)) ⟨hx, hb, hml, hown, hts⟩ (m_X2_turns_2__L l G ph pd nr nc pL pG pB pk pa pt pm tt (by first | assumption | omega) (by first | assumption | omega) (by first | assumption | omega)) (cwV 2 hts (lw_V q1031 q1032 q1033 q89 q1034) rfl rfl rfl (by decide +kernel) ⟨Nat.le_of_ble_eq_true rfl, Nat.le_of_ble_eq_true rfl⟩) hK hZ hA hP hD hS [0, 1, 2, 3, 4, 5] [] rfl rfl (by decide) (by decide) (by decide) 0 1 rfl rfl rfl hl.1 (Nat.le_of_ble_eq_true rfl) ⟨Nat.le_of_ble_eq_true rfl, Nat.le_of_ble_eq_true rfl⟩ rfl dX2_would_6 (fun u9 H locs hw9 hP hD hS => ?_)
  have hP : va_P G.1 CL (PW G ph pd nr nc (tn nr nc tt pL) pG pB pk pa pt pm) _ := hP
  have hD : va_D A (PW G ph pd nr nc (tn nr nc tt pL) pG pB pk pa pt pm) := hD
  refine lv_aload_n hx hb dX2_would_9 rfl (lv_at hl 0 rfl) ?_
  refine callVi (As := []) (rest := []) (wc := (PW G ph pd nr nc (tn nr nc tt pL) pG pB pk pa pt pm)) (wr := ([] : va_W)) ⟨hx, hb, hml, hown, hts⟩ (m_X2_home l G ph pd nr nc (tn nr nc tt pL) pG pB pk pa pt pm (by first | assumption | omega) (tn_lt hL) (by first | assumption | omega)) (cwV 0 hts (lw_V q1059 q510 q511 q89 q512) rfl rfl rfl (by decide +kernel) ⟨Nat.le_of_ble_eq_true rfl, Nat.le_of_ble_eq_true rfl⟩) hK hZ hA hP hD hS [0, 1, 2, 3, 4, 5] [] rfl rfl (by decide) (by decide) (by decide) 0 1 rfl rfl rfl hl.1 (Nat.le_of_ble_eq_true rfl) ⟨Nat.le_of_ble_eq_true rfl, Nat.le_of_ble_eq_true rfl⟩ rfl dX2_would_10 (fun r9 u9 H locs hw9 hP hD hS => ?_)
  subst hw9
  have hP : va_P G.1 CL (PW G ph pd nr nc (tn nr nc tt pL) pG pB pk pa pt pm) _ := hP
  have hD : va_D A (PW G ph pd nr nc (tn nr nc tt pL) pG pB pk pa pt pm) := hD
  refine lv_istore_n (lv' := [(2, .int (nI (hm nr nc (tn nr nc tt pL) pG))), (0, .ref ph), (1, .int (nI tt))]) hx hb dX2_would_13 rfl hl (by decide) rfl (fun ls hl => ?_)
  refine lv_aload_n hx hb dX2_would_14 rfl (lv_at hl 1 rfl) ?_
  refine lv_aload_n hx hb dX2_would_15 rfl (lv_at hl 1 rfl) ?_
  refine va_get (D := G.1) (ci := 1) (v := .ref (pd 0)) (C := RX2) (T := TX2) (N := 14) hx hb hts in_X2 hown hK hP 0 rfl rfl 2 (by decide) (hts _ q145) (fun _ h9 => h9) rfl dX2_would_16 ?_
  refine lv_iload_n hx hb dX2_would_19 rfl (lv_at hl 2 rfl) ?_
  refine callSi (As := [.int (nI tt)]) (rest := [.ref (pd 0), .ref ph]) (wc := ([] : va_W)) (wr := (PW G ph pd nr nc (tn nr nc tt pL) pG pB pk pa pt pm)) ⟨hx, hb, hml, hown, hts⟩ (m_X2_back l G tt (by first | assumption | omega)) (va_cwS 1 hts (lw_S q1035 q1036 q89 q1037) rfl rfl rfl (by decide +kernel) ⟨Nat.le_of_ble_eq_true rfl, Nat.le_of_ble_eq_true rfl⟩) hK hZ hA hP hD hS [] [0, 1, 2, 3, 4, 5] rfl rfl (by decide) (by decide) (by decide) rfl hl.1 (Nat.le_of_ble_eq_true rfl) ⟨Nat.le_of_ble_eq_true rfl, Nat.le_of_ble_eq_true rfl⟩ rfl dX2_would_20 (fun r9 u9 H locs hw9 hP hD hS => ?_)
  subst hw9
  have hP : va_P G.1 CL (PW G ph pd nr nc (tn nr nc tt pL) pG pB pk pa pt pm) _ := hP
  have hD : va_D A (PW G ph pd nr nc (tn nr nc tt pL) pG pB pk pa pt pm) := hD
  refine callVv (As := [.ref (pd 0), .int (nI (bk tt))]) (rest := []) (wc := (PW G ph pd nr nc (tn nr nc tt pL) pG pB pk pa pt pm)) (wr := ([] : va_W)) ⟨hx, hb, hml, hown, hts⟩ (m_X2_turns_2__L l G ph pd nr nc (tn nr nc tt pL) pG pB pk pa pt pm (bk tt) (by first | assumption | omega) (bk_lt hd ht0).1 (tn_lt hL)) (cwV 2 hts (lw_V q1031 q1032 q1033 q89 q1034) rfl rfl rfl (by decide +kernel) ⟨Nat.le_of_ble_eq_true rfl, Nat.le_of_ble_eq_true rfl⟩) hK hZ hA hP hD hS [0, 1, 2, 3, 4, 5] [] rfl rfl (by decide) (by decide) (by decide) 0 1 rfl rfl rfl hl.1 (Nat.le_of_ble_eq_true rfl) ⟨Nat.le_of_ble_eq_true rfl, Nat.le_of_ble_eq_true rfl⟩ rfl dX2_would_23 (fun u9 H locs hw9 hP hD hS => ?_)
  have hP : va_P G.1 CL (PW G ph pd nr nc (tn nr nc (bk tt) (tn nr nc tt pL)) pG pB pk pa pt pm) _ := hP
  have hD : va_D A (PW G ph pd nr nc (tn nr nc (bk tt) (tn nr nc tt pL)) pG pB pk pa pt pm) := hD
  refine lv_iload_n hx hb dX2_would_26 rfl (lv_at hl 0 rfl) ?_
  have e_L : (tn nr nc (bk tt) (tn nr nc tt pL)) = pL := (tn_bk hd ht0 pL)
  rw [e_L] at hP hD
  subst hQ
  exact ret_i hx hb hr hlk () rfl hP hD hS rfl dX2_would_27
set_option maxHeartbeats 4000000 in
set_option maxRecDepth 100000 in
theorem m_X2_count__L (l : Launch) (G : GG) (ph : Nat) (pd : Nat → Nat) (nr : Nat) (nc : Nat) (pL : Nat → Nat) (pG : Nat → Nat) (pB : Nat → Bool) (pk : Nat → Int32) (pa : Nat → Nat) (pt : Nat → Nat) (pm : Nat) (mn : Nat) (sg : Nat) (hmn : mn ≤ 9) (hsg : sg < 65536) (hL : ∀ i, pL i < 65536) : MM l G yX2_count cX2_count 5 (some .int) ⟨0, 0, 0, 0⟩ [.ref (pd 0), .int (nI mn), .int (nI sg)] (PW G ph pd nr nc pL pG pB pk pa pt pm) (Qi_ G (fun (r : Int32) (_ : Unit) => r = nI (tm pL mn sg)) (fun (_ : Unit) => (PW G ph pd nr nc pL pG pB pk pa pt pm))) := by
  refine MM.of (by decide) (Nat.le_of_ble_eq_true rfl) ?_
  intro p e s m args below meth cd A C hini hA hK hZ hP hD ls hl
  generalize hQ : MQ below ((Qi_ G (fun (r : Int32) (_ : Unit) => r = nI (tm pL mn sg)) (fun (_ : Unit) => (PW G ph pd nr nc pL pG pB pk pa pt pm))) A) args s (⟨0, 0, 0, 0⟩ : Room).cells (⟨0, 0, 0, 0⟩ : Room).slots A = Q
  obtain ⟨hx, hb, hr, hts, hown, hlk, hml⟩ := C
  have hown : s.vm.findClass RX2 = some m.cls := hown
  have hS : va_S A s.heap s.heap [] := va_S.rf
  have hl : lv_has ls 5 [(0, .ref (pd 0)), (1, .int (nI mn)), (2, .int (nI sg))] := hl
  refine lv_iconst (v := nI 0) hx hb dX2_count_0 (by decide) ?_
  refine lv_istore_n (lv' := [(3, .int (nI 0)), (0, .ref (pd 0)), (1, .int (nI mn)), (2, .int (nI sg))]) hx hb dX2_count_1 rfl hl (by decide) rfl (fun ls hl => ?_)
  refine lv_iconst (v := nI 0) hx hb dX2_count_2 (by decide) ?_
  refine lv_istore (lv' := [(4, .int (nI 0)), (3, .int (nI 0)), (0, .ref (pd 0)), (1, .int (nI mn)), (2, .int (nI sg))]) hx hb dX2_count_3 hl (by decide) rfl (fun ls hl => ?_)
  have lp5 : ∀ (f : Nat) (i : Nat) (n : Nat), mn - i < f → (i ≤ mn) → (n = cn (fun k => decide (pL k = sg)) i) → ∀ (H : Heap) (locs : List Loc) (ls : Array Slot), va_P G.1 CL (PW G ph pd nr nc pL pG pB pk pa pt pm) H → va_D A (PW G ph pd nr nc pL pG pB pk pa pt pm) → va_S A s.heap H locs → lv_has ls 5 [(4, .int (nI i)), (3, .int (nI n)), (0, .ref (pd 0)), (1, .int (nI mn)), (2, .int (nI sg))] → W p l e (⟨0, 0, 0, 0⟩ : Room) s m args below meth cd H locs 0 0 Q (F0 m 5 ls []) := by
    intro f
    induction f with
    | zero => intro i n hf; exact absurd hf (Nat.not_lt_zero _)
    | succ f ih5 =>
      intro i n hf hi hn H locs ls hP hD hS hl
      refine lv_iload hx hb dX2_count_5 (lv_at hl 0 rfl) ?_
      refine lv_iload_n hx hb dX2_count_7 rfl (lv_at hl 3 rfl) ?_
      refine n_cmp_ge (tgt := 33) hx hb dX2_count_8 (by decide) (by omega) (by omega) (fun c8 => ?_) (fun c8 => ?_)
      · skip
        refine lv_iload_n hx hb dX2_count_33 rfl (lv_at hl 1 rfl) ?_
        subst hQ
        exact ret_i hx hb hr hlk () (by rw [hn, tm, show i = mn by omega]) hP hD hS rfl dX2_count_34
      · skip
        refine lv_iload_n hx hb dX2_count_11 rfl (lv_at hl 1 rfl) ?_
        refine lv_aload_n hx hb dX2_count_12 rfl (lv_at hl 2 rfl) ?_
        refine lv_iload hx hb dX2_count_13 (lv_at hl 0 rfl) ?_
        refine n_cald hx hb hK hP 1 2 rfl rfl (by omega) (by decide) dX2_count_15 ?_
        refine lv_iload_n hx hb dX2_count_16 rfl (lv_at hl 4 rfl) ?_
        refine n_cmp_ne (tgt := 24) hx hb dX2_count_17 (by decide) (by have := hL i; omega) (by omega) (fun c17 => ?_) (fun c17 => ?_)
        · skip
          refine lv_iconst (v := nI 0) hx hb dX2_count_24 (by decide) ?_
          refine n_iadd hx hb dX2_count_25 ?_
          refine lv_istore_n (lv' := [(3, .int (nI (n + 0))), (4, .int (nI i)), (0, .ref (pd 0)), (1, .int (nI mn)), (2, .int (nI sg))]) hx hb dX2_count_26 rfl hl (by decide) rfl (fun ls hl => ?_)
          refine lv_iinc (v := nI (i + 1)) (lv' := [(4, .int (nI (i + 1))), (3, .int (nI (n + 0))), (0, .ref (pd 0)), (1, .int (nI mn)), (2, .int (nI sg))]) hx hb dX2_count_27 hl (k := 1) rfl (nI_add _ _) (by decide) rfl (fun ls hl => ?_)
          refine lv_goto (tgt := 5) hx hb dX2_count_30 (by decide) ?_
          exact ih5 (i + 1) (n + 0) (by omega) (by omega) (hn ▸ cn_f (decide_eq_false c17)) _ _ _ hP hD hS (lv_sub hl [0, 1, 2, 3, 4] rfl)
        · skip
          refine lv_iconst (v := nI 1) hx hb dX2_count_20 (by decide) ?_
          refine lv_goto (tgt := 25) hx hb dX2_count_21 (by decide) ?_
          refine n_iadd hx hb dX2_count_25 ?_
          refine lv_istore_n (lv' := [(3, .int (nI (n + 1))), (4, .int (nI i)), (0, .ref (pd 0)), (1, .int (nI mn)), (2, .int (nI sg))]) hx hb dX2_count_26 rfl hl (by decide) rfl (fun ls hl => ?_)
          refine lv_iinc (v := nI (i + 1)) (lv' := [(4, .int (nI (i + 1))), (3, .int (nI (n + 1))), (0, .ref (pd 0)), (1, .int (nI mn)), (2, .int (nI sg))]) hx hb dX2_count_27 hl (k := 1) rfl (nI_add _ _) (by decide) rfl (fun ls hl => ?_)
          refine lv_goto (tgt := 5) hx hb dX2_count_30 (by decide) ?_
          exact ih5 (i + 1) (n + 1) (by omega) (by omega) (hn ▸ cn_t (decide_eq_true c17)) _ _ _ hP hD hS (lv_sub hl [0, 1, 2, 3, 4] rfl)
  exact lp5 _ 0 0 (Nat.lt_succ_self _) (by omega) rfl _ _ _ hP hD hS (lv_sub hl [0, 1, 2, 3, 4] rfl)
set_option maxHeartbeats 4000000 in
set_option maxRecDepth 100000 in
theorem m_X2_count__G (l : Launch) (G : GG) (ph : Nat) (pd : Nat → Nat) (nr : Nat) (nc : Nat) (pL : Nat → Nat) (pG : Nat → Nat) (pB : Nat → Bool) (pk : Nat → Int32) (pa : Nat → Nat) (pt : Nat → Nat) (pm : Nat) (mn : Nat) (sg : Nat) (hmn : mn ≤ 9) (hsg : sg < 65536) (hL : ∀ i, pG i < 65536) : MM l G yX2_count cX2_count 5 (some .int) ⟨0, 0, 0, 0⟩ [.ref (pd 1), .int (nI mn), .int (nI sg)] (PW G ph pd nr nc pL pG pB pk pa pt pm) (Qi_ G (fun (r : Int32) (_ : Unit) => r = nI (tm pG mn sg)) (fun (_ : Unit) => (PW G ph pd nr nc pL pG pB pk pa pt pm))) := by
  refine MM.of (by decide) (Nat.le_of_ble_eq_true rfl) ?_
  intro p e s m args below meth cd A C hini hA hK hZ hP hD ls hl
  generalize hQ : MQ below ((Qi_ G (fun (r : Int32) (_ : Unit) => r = nI (tm pG mn sg)) (fun (_ : Unit) => (PW G ph pd nr nc pL pG pB pk pa pt pm))) A) args s (⟨0, 0, 0, 0⟩ : Room).cells (⟨0, 0, 0, 0⟩ : Room).slots A = Q
  obtain ⟨hx, hb, hr, hts, hown, hlk, hml⟩ := C
  have hown : s.vm.findClass RX2 = some m.cls := hown
  have hS : va_S A s.heap s.heap [] := va_S.rf
  have hl : lv_has ls 5 [(0, .ref (pd 1)), (1, .int (nI mn)), (2, .int (nI sg))] := hl
  refine lv_iconst (v := nI 0) hx hb dX2_count_0 (by decide) ?_
  refine lv_istore_n (lv' := [(3, .int (nI 0)), (0, .ref (pd 1)), (1, .int (nI mn)), (2, .int (nI sg))]) hx hb dX2_count_1 rfl hl (by decide) rfl (fun ls hl => ?_)
  refine lv_iconst (v := nI 0) hx hb dX2_count_2 (by decide) ?_
  refine lv_istore (lv' := [(4, .int (nI 0)), (3, .int (nI 0)), (0, .ref (pd 1)), (1, .int (nI mn)), (2, .int (nI sg))]) hx hb dX2_count_3 hl (by decide) rfl (fun ls hl => ?_)
  have lp5 : ∀ (f : Nat) (i : Nat) (n : Nat), mn - i < f → (i ≤ mn) → (n = cn (fun k => decide (pG k = sg)) i) → ∀ (H : Heap) (locs : List Loc) (ls : Array Slot), va_P G.1 CL (PW G ph pd nr nc pL pG pB pk pa pt pm) H → va_D A (PW G ph pd nr nc pL pG pB pk pa pt pm) → va_S A s.heap H locs → lv_has ls 5 [(4, .int (nI i)), (3, .int (nI n)), (0, .ref (pd 1)), (1, .int (nI mn)), (2, .int (nI sg))] → W p l e (⟨0, 0, 0, 0⟩ : Room) s m args below meth cd H locs 0 0 Q (F0 m 5 ls []) := by
    intro f
    induction f with
    | zero => intro i n hf; exact absurd hf (Nat.not_lt_zero _)
    | succ f ih5 =>
      intro i n hf hi hn H locs ls hP hD hS hl
      refine lv_iload hx hb dX2_count_5 (lv_at hl 0 rfl) ?_
      refine lv_iload_n hx hb dX2_count_7 rfl (lv_at hl 3 rfl) ?_
      refine n_cmp_ge (tgt := 33) hx hb dX2_count_8 (by decide) (by omega) (by omega) (fun c8 => ?_) (fun c8 => ?_)
      · skip
        refine lv_iload_n hx hb dX2_count_33 rfl (lv_at hl 1 rfl) ?_
        subst hQ
        exact ret_i hx hb hr hlk () (by rw [hn, tm, show i = mn by omega]) hP hD hS rfl dX2_count_34
      · skip
        refine lv_iload_n hx hb dX2_count_11 rfl (lv_at hl 1 rfl) ?_
        refine lv_aload_n hx hb dX2_count_12 rfl (lv_at hl 2 rfl) ?_
        refine lv_iload hx hb dX2_count_13 (lv_at hl 0 rfl) ?_
        refine n_cald hx hb hK hP 2 2 rfl rfl (by omega) (by decide) dX2_count_15 ?_
        refine lv_iload_n hx hb dX2_count_16 rfl (lv_at hl 4 rfl) ?_
        refine n_cmp_ne (tgt := 24) hx hb dX2_count_17 (by decide) (by have := hL i; omega) (by omega) (fun c17 => ?_) (fun c17 => ?_)
        · skip
          refine lv_iconst (v := nI 0) hx hb dX2_count_24 (by decide) ?_
          refine n_iadd hx hb dX2_count_25 ?_
          refine lv_istore_n (lv' := [(3, .int (nI (n + 0))), (4, .int (nI i)), (0, .ref (pd 1)), (1, .int (nI mn)), (2, .int (nI sg))]) hx hb dX2_count_26 rfl hl (by decide) rfl (fun ls hl => ?_)
          refine lv_iinc (v := nI (i + 1)) (lv' := [(4, .int (nI (i + 1))), (3, .int (nI (n + 0))), (0, .ref (pd 1)), (1, .int (nI mn)), (2, .int (nI sg))]) hx hb dX2_count_27 hl (k := 1) rfl (nI_add _ _) (by decide) rfl (fun ls hl => ?_)
          refine lv_goto (tgt := 5) hx hb dX2_count_30 (by decide) ?_
          exact ih5 (i + 1) (n + 0) (by omega) (by omega) (hn ▸ cn_f (decide_eq_false c17)) _ _ _ hP hD hS (lv_sub hl [0, 1, 2, 3, 4] rfl)
        · skip
          refine lv_iconst (v := nI 1) hx hb dX2_count_20 (by decide) ?_
          refine lv_goto (tgt := 25) hx hb dX2_count_21 (by decide) ?_
          refine n_iadd hx hb dX2_count_25 ?_
          refine lv_istore_n (lv' := [(3, .int (nI (n + 1))), (4, .int (nI i)), (0, .ref (pd 1)), (1, .int (nI mn)), (2, .int (nI sg))]) hx hb dX2_count_26 rfl hl (by decide) rfl (fun ls hl => ?_)
          refine lv_iinc (v := nI (i + 1)) (lv' := [(4, .int (nI (i + 1))), (3, .int (nI (n + 1))), (0, .ref (pd 1)), (1, .int (nI mn)), (2, .int (nI sg))]) hx hb dX2_count_27 hl (k := 1) rfl (nI_add _ _) (by decide) rfl (fun ls hl => ?_)
          refine lv_goto (tgt := 5) hx hb dX2_count_30 (by decide) ?_
          exact ih5 (i + 1) (n + 1) (by omega) (by omega) (hn ▸ cn_t (decide_eq_true c17)) _ _ _ hP hD hS (lv_sub hl [0, 1, 2, 3, 4] rfl)
  exact lp5 _ 0 0 (Nat.lt_succ_self _) (by omega) rfl _ _ _ hP hD hS (lv_sub hl [0, 1, 2, 3, 4] rfl)
set_option maxHeartbeats 4000000 in
set_option maxRecDepth 100000 in
theorem m_X2_anyMany (l : Launch) (G : GG) (ph : Nat) (pd : Nat → Nat) (nr : Nat) (nc : Nat) (pL : Nat → Nat) (pG : Nat → Nat) (pB : Nat → Bool) (pk : Nat → Int32) (pa : Nat → Nat) (pt : Nat → Nat) (pm : Nat) (hd : 2 ≤ nr ∧ nr ≤ 3 ∧ 2 ≤ nc ∧ nc ≤ 3) (hG : ∀ i, pG i < 65536) : MM l G yX2_anyMany cX2_anyMany 1 (some .int) ⟨1, 0, 0, 24⟩ [.ref ph] (PW G ph pd nr nc pL pG pB pk pa pt pm) (Qi_ G (fun (r : Int32) (_ : Unit) => r = nI (tm pG (nr * nc) 46)) (fun (_ : Unit) => (PW G ph pd nr nc pL pG pB pk pa pt pm))) := by
  refine MM.of (by decide) (Nat.le_of_ble_eq_true rfl) ?_
  intro p e s m args below meth cd A C hini hA hK hZ hP hD ls hl
  generalize hQ : MQ below ((Qi_ G (fun (r : Int32) (_ : Unit) => r = nI (tm pG (nr * nc) 46)) (fun (_ : Unit) => (PW G ph pd nr nc pL pG pB pk pa pt pm))) A) args s (⟨1, 0, 0, 24⟩ : Room).cells (⟨1, 0, 0, 24⟩ : Room).slots A = Q
  obtain ⟨hx, hb, hr, hts, hown, hlk, hml⟩ := C
  have hown : s.vm.findClass RX2 = some m.cls := hown
  have hS : va_S A s.heap s.heap [] := va_S.rf
  have hl : lv_has ls 1 [(0, .ref ph)] := hl
  have hmu := dm_mul hd
  refine lv_aload_n hx hb dX2_anyMany_0 rfl (lv_at hl 0 rfl) ?_
  refine va_get (D := G.1) (ci := 1) (v := .ref (pd 1)) (C := RX2) (T := TX2) (N := 14) hx hb hts in_X2 hown hK hP 0 rfl rfl 3 (by decide) (hts _ q147) (fun _ h9 => h9) rfl dX2_anyMany_1 ?_
  refine lv_aload_n hx hb dX2_anyMany_4 rfl (lv_at hl 0 rfl) ?_
  refine callVi (As := []) (rest := [.ref (pd 1)]) (wc := (PW G ph pd nr nc pL pG pB pk pa pt pm)) (wr := ([] : va_W)) ⟨hx, hb, hml, hown, hts⟩ (m_X2_places l G ph pd nr nc pL pG pB pk pa pt pm ) (cwV 0 hts (lw_V q474 q475 q476 q89 q477) rfl rfl rfl (by decide +kernel) ⟨Nat.le_of_ble_eq_true rfl, Nat.le_of_ble_eq_true rfl⟩) hK hZ hA hP hD hS [0, 1, 2, 3, 4, 5] [] rfl rfl (by decide) (by decide) (by decide) 0 1 rfl rfl rfl hl.1 (Nat.le_of_ble_eq_true rfl) ⟨Nat.le_of_ble_eq_true rfl, Nat.le_of_ble_eq_true rfl⟩ rfl dX2_anyMany_5 (fun r9 u9 H locs hw9 hP hD hS => ?_)
  subst hw9
  have hP : va_P G.1 CL (PW G ph pd nr nc pL pG pB pk pa pt pm) _ := hP
  have hD : va_D A (PW G ph pd nr nc pL pG pB pk pa pt pm) := hD
  refine lv_bipush (v := nI 46) hx hb dX2_anyMany_8 (by decide) ?_
  refine callSi (As := [.ref (pd 1), .int (nI (nr * nc)), .int (nI 46)]) (rest := []) (wc := (PW G ph pd nr nc pL pG pB pk pa pt pm)) (wr := ([] : va_W)) ⟨hx, hb, hml, hown, hts⟩ (m_X2_count__G l G ph pd nr nc pL pG pB pk pa pt pm (nr * nc) 46 (by first | assumption | omega) (by first | assumption | omega) hG) (va_cwS 3 hts (lw_S q478 q479 q89 q480) rfl rfl rfl (by decide +kernel) ⟨Nat.le_of_ble_eq_true rfl, Nat.le_of_ble_eq_true rfl⟩) hK hZ hA hP hD hS [0, 1, 2, 3, 4, 5] [] rfl rfl (by decide) (by decide) (by decide) rfl hl.1 (Nat.le_of_ble_eq_true rfl) ⟨Nat.le_of_ble_eq_true rfl, Nat.le_of_ble_eq_true rfl⟩ rfl dX2_anyMany_10 (fun r9 u9 H locs hw9 hP hD hS => ?_)
  subst hw9
  have hP : va_P G.1 CL (PW G ph pd nr nc pL pG pB pk pa pt pm) _ := hP
  have hD : va_D A (PW G ph pd nr nc pL pG pB pk pa pt pm) := hD
  subst hQ
  exact ret_i hx hb hr hlk () rfl hP hD hS rfl dX2_anyMany_13
set_option maxHeartbeats 4000000 in
set_option maxRecDepth 100000 in
theorem m_X2_unlike (l : Launch) (G : GG) (ph : Nat) (pd : Nat → Nat) (nr : Nat) (nc : Nat) (pL : Nat → Nat) (pG : Nat → Nat) (pB : Nat → Bool) (pk : Nat → Int32) (pa : Nat → Nat) (pt : Nat → Nat) (pm : Nat) (hd : 2 ≤ nr ∧ nr ≤ 3 ∧ 2 ≤ nc ∧ nc ≤ 3) (hL : ∀ i, pL i < 65536) : MM l G yX2_unlike cX2_unlike 3 (some .int) ⟨1, 0, 0, 24⟩ [.ref ph] (PW G ph pd nr nc pL pG pB pk pa pt pm) (Qi_ G (fun (r : Int32) (_ : Unit) => r = nI (ul pL (nr * nc))) (fun (_ : Unit) => (PW G ph pd nr nc pL pG pB pk pa pt pm))) := by
  refine MM.of (by decide) (Nat.le_of_ble_eq_true rfl) ?_
  intro p e s m args below meth cd A C hini hA hK hZ hP hD ls hl
  generalize hQ : MQ below ((Qi_ G (fun (r : Int32) (_ : Unit) => r = nI (ul pL (nr * nc))) (fun (_ : Unit) => (PW G ph pd nr nc pL pG pB pk pa pt pm))) A) args s (⟨1, 0, 0, 24⟩ : Room).cells (⟨1, 0, 0, 24⟩ : Room).slots A = Q
  obtain ⟨hx, hb, hr, hts, hown, hlk, hml⟩ := C
  have hown : s.vm.findClass RX2 = some m.cls := hown
  have hS : va_S A s.heap s.heap [] := va_S.rf
  have hl : lv_has ls 3 [(0, .ref ph)] := hl
  have hmu := dm_mul hd
  refine lv_iconst (v := nI 0) hx hb dX2_unlike_0 (by decide) ?_
  refine lv_istore_n (lv' := [(1, .int (nI 0)), (0, .ref ph)]) hx hb dX2_unlike_1 rfl hl (by decide) rfl (fun ls hl => ?_)
  refine lv_bipush (v := nI 97) hx hb dX2_unlike_2 (by decide) ?_
  refine lv_istore_n (lv' := [(2, .int (nI 97)), (1, .int (nI 0)), (0, .ref ph)]) hx hb dX2_unlike_4 rfl hl (by decide) rfl (fun ls hl => ?_)
  have lp5 : ∀ (f : Nat) (v : Nat) (n : Nat), 12 - v < f → (v ≤ 12) → (n = cn (fun v => decide (0 < tm pL (nr * nc) (97 + v))) v) → ∀ (H : Heap) (locs : List Loc) (ls : Array Slot), va_P G.1 CL (PW G ph pd nr nc pL pG pB pk pa pt pm) H → va_D A (PW G ph pd nr nc pL pG pB pk pa pt pm) → va_S A s.heap H locs → lv_has ls 3 [(2, .int (nI (97 + v))), (1, .int (nI n)), (0, .ref ph)] → W p l e (⟨1, 0, 0, 24⟩ : Room) s m args below meth cd H locs 0 0 Q (F0 m 5 ls []) := by
    intro f
    induction f with
    | zero => intro v n hf; exact absurd hf (Nat.not_lt_zero _)
    | succ f ih5 =>
      intro v n hf hi hn H locs ls hP hD hS hl
      refine lv_iload_n hx hb dX2_unlike_5 rfl (lv_at hl 0 rfl) ?_
      refine lv_bipush (v := nI 108) hx hb dX2_unlike_6 (by decide) ?_
      refine n_cmp_gt (tgt := 42) hx hb dX2_unlike_8 (by decide) (by omega) (by omega) (fun c8 => ?_) (fun c8 => ?_)
      · skip
        refine lv_iload_n hx hb dX2_unlike_42 rfl (lv_at hl 1 rfl) ?_
        subst hQ
        exact ret_i hx hb hr hlk () (by rw [hn, ul, show v = 12 by omega]) hP hD hS rfl dX2_unlike_43
      · skip
        refine lv_iload_n hx hb dX2_unlike_11 rfl (lv_at hl 1 rfl) ?_
        refine lv_aload_n hx hb dX2_unlike_12 rfl (lv_at hl 2 rfl) ?_
        refine va_get (D := G.1) (ci := 1) (v := .ref (pd 0)) (C := RX2) (T := TX2) (N := 14) hx hb hts in_X2 hown hK hP 0 rfl rfl 2 (by decide) (hts _ q145) (fun _ h9 => h9) rfl dX2_unlike_13 ?_
        refine lv_aload_n hx hb dX2_unlike_16 rfl (lv_at hl 2 rfl) ?_
        refine callVi (As := []) (rest := [.ref (pd 0), .int (nI n)]) (wc := (PW G ph pd nr nc pL pG pB pk pa pt pm)) (wr := ([] : va_W)) ⟨hx, hb, hml, hown, hts⟩ (m_X2_places l G ph pd nr nc pL pG pB pk pa pt pm ) (cwV 0 hts (lw_V q474 q475 q476 q89 q477) rfl rfl rfl (by decide +kernel) ⟨Nat.le_of_ble_eq_true rfl, Nat.le_of_ble_eq_true rfl⟩) hK hZ hA hP hD hS [0, 1, 2, 3, 4, 5] [] rfl rfl (by decide) (by decide) (by decide) 0 1 rfl rfl rfl hl.1 (Nat.le_of_ble_eq_true rfl) ⟨Nat.le_of_ble_eq_true rfl, Nat.le_of_ble_eq_true rfl⟩ rfl dX2_unlike_17 (fun r9 u9 H locs hw9 hP hD hS => ?_)
        subst hw9
        have hP : va_P G.1 CL (PW G ph pd nr nc pL pG pB pk pa pt pm) _ := hP
        have hD : va_D A (PW G ph pd nr nc pL pG pB pk pa pt pm) := hD
        refine lv_iload_n hx hb dX2_unlike_20 rfl (lv_at hl 0 rfl) ?_
        refine callSi (As := [.ref (pd 0), .int (nI (nr * nc)), .int (nI (97 + v))]) (rest := [.int (nI n)]) (wc := (PW G ph pd nr nc pL pG pB pk pa pt pm)) (wr := ([] : va_W)) ⟨hx, hb, hml, hown, hts⟩ (m_X2_count__L l G ph pd nr nc pL pG pB pk pa pt pm (nr * nc) (97 + v) (by first | assumption | omega) (by first | assumption | omega) hL) (va_cwS 3 hts (lw_S q478 q479 q89 q480) rfl rfl rfl (by decide +kernel) ⟨Nat.le_of_ble_eq_true rfl, Nat.le_of_ble_eq_true rfl⟩) hK hZ hA hP hD hS [0, 1, 2, 3, 4, 5] [] rfl rfl (by decide) (by decide) (by decide) rfl hl.1 (Nat.le_of_ble_eq_true rfl) ⟨Nat.le_of_ble_eq_true rfl, Nat.le_of_ble_eq_true rfl⟩ rfl dX2_unlike_21 (fun r9 u9 H locs hw9 hP hD hS => ?_)
        subst hw9
        have hP : va_P G.1 CL (PW G ph pd nr nc pL pG pB pk pa pt pm) _ := hP
        have hD : va_D A (PW G ph pd nr nc pL pG pB pk pa pt pm) := hD
        refine n_if_le (tgt := 31) hx hb dX2_unlike_24 (by decide) (by have := tm_le pL (nr * nc) (97 + v); omega) (fun c24 => ?_) (fun c24 => ?_)
        · skip
          refine lv_iconst (v := nI 0) hx hb dX2_unlike_31 (by decide) ?_
          refine n_iadd hx hb dX2_unlike_32 ?_
          refine lv_istore_n (lv' := [(1, .int (nI (n + 0))), (2, .int (nI (97 + v))), (0, .ref ph)]) hx hb dX2_unlike_33 rfl hl (by decide) rfl (fun ls hl => ?_)
          refine lv_iload_n hx hb dX2_unlike_34 rfl (lv_at hl 1 rfl) ?_
          refine lv_iconst (v := nI 1) hx hb dX2_unlike_35 (by decide) ?_
          refine n_iadd hx hb dX2_unlike_36 ?_
          refine n_i2c hx hb (by omega) dX2_unlike_37 ?_
          refine lv_istore_n (lv' := [(2, .int (nI ((97 + v) + 1))), (1, .int (nI (n + 0))), (0, .ref ph)]) hx hb dX2_unlike_38 rfl hl (by decide) rfl (fun ls hl => ?_)
          refine lv_goto (tgt := 5) hx hb dX2_unlike_39 (by decide) ?_
          exact ih5 (v + 1) (n + 0) (by omega) (by omega) (hn ▸ cn_f (decide_eq_false (by omega))) _ _ _ hP hD hS (lv_sub hl [0, 1, 2] rfl)
        · skip
          refine lv_iconst (v := nI 1) hx hb dX2_unlike_27 (by decide) ?_
          refine lv_goto (tgt := 32) hx hb dX2_unlike_28 (by decide) ?_
          refine n_iadd hx hb dX2_unlike_32 ?_
          refine lv_istore_n (lv' := [(1, .int (nI (n + 1))), (2, .int (nI (97 + v))), (0, .ref ph)]) hx hb dX2_unlike_33 rfl hl (by decide) rfl (fun ls hl => ?_)
          refine lv_iload_n hx hb dX2_unlike_34 rfl (lv_at hl 1 rfl) ?_
          refine lv_iconst (v := nI 1) hx hb dX2_unlike_35 (by decide) ?_
          refine n_iadd hx hb dX2_unlike_36 ?_
          refine n_i2c hx hb (by omega) dX2_unlike_37 ?_
          refine lv_istore_n (lv' := [(2, .int (nI ((97 + v) + 1))), (1, .int (nI (n + 1))), (0, .ref ph)]) hx hb dX2_unlike_38 rfl hl (by decide) rfl (fun ls hl => ?_)
          refine lv_goto (tgt := 5) hx hb dX2_unlike_39 (by decide) ?_
          exact ih5 (v + 1) (n + 1) (by omega) (by omega) (hn ▸ cn_t (decide_eq_true c24)) _ _ _ hP hD hS (lv_sub hl [0, 1, 2] rfl)
  exact lp5 _ 0 0 (Nat.lt_succ_self _) (by omega) rfl _ _ _ hP hD hS (lv_sub hl [0, 1, 2] rfl)
set_option maxHeartbeats 4000000 in
set_option maxRecDepth 100000 in
theorem m_X2_isLacking (l : Launch) (G : GG) (ph : Nat) (pd : Nat → Nat) (nr : Nat) (nc : Nat) (pL : Nat → Nat) (pG : Nat → Nat) (pB : Nat → Bool) (pk : Nat → Int32) (pa : Nat → Nat) (pt : Nat → Nat) (pm : Nat) (hd : 2 ≤ nr ∧ nr ≤ 3 ∧ 2 ≤ nc ∧ nc ≤ 3) (hL : ∀ i, pL i < 65536) (hG : ∀ i, pG i < 65536) : MM l G yX2_isLacking cX2_isLacking 3 (some .boolean) ⟨1, 0, 0, 24⟩ [.ref ph] (PW G ph pd nr nc pL pG pB pk pa pt pm) (Qi_ G (fun (r : Int32) (_ : Unit) => r = bI (lk pL pG (nr * nc))) (fun (_ : Unit) => (PW G ph pd nr nc pL pG pB pk pa pt pm))) := by
  refine MM.of (by decide) (Nat.le_of_ble_eq_true rfl) ?_
  intro p e s m args below meth cd A C hini hA hK hZ hP hD ls hl
  generalize hQ : MQ below ((Qi_ G (fun (r : Int32) (_ : Unit) => r = bI (lk pL pG (nr * nc))) (fun (_ : Unit) => (PW G ph pd nr nc pL pG pB pk pa pt pm))) A) args s (⟨1, 0, 0, 24⟩ : Room).cells (⟨1, 0, 0, 24⟩ : Room).slots A = Q
  obtain ⟨hx, hb, hr, hts, hown, hlk, hml⟩ := C
  have hown : s.vm.findClass RX2 = some m.cls := hown
  have hS : va_S A s.heap s.heap [] := va_S.rf
  have hl : lv_has ls 3 [(0, .ref ph)] := hl
  have hmu := dm_mul hd
  refine lv_iconst (v := nI 0) hx hb dX2_isLacking_0 (by decide) ?_
  refine lv_istore_n (lv' := [(1, .int (nI 0)), (0, .ref ph)]) hx hb dX2_isLacking_1 rfl hl (by decide) rfl (fun ls hl => ?_)
  refine lv_bipush (v := nI 97) hx hb dX2_isLacking_2 (by decide) ?_
  refine lv_istore_n (lv' := [(2, .int (nI 97)), (1, .int (nI 0)), (0, .ref ph)]) hx hb dX2_isLacking_4 rfl hl (by decide) rfl (fun ls hl => ?_)
  have lp5 : ∀ (f : Nat) (v : Nat) (bb : Bool), 12 - v < f → (v ≤ 12) → (bb = ay (fun v => decide (tm pL (nr * nc) (97 + v) < tm pG (nr * nc) (97 + v))) v) → ∀ (H : Heap) (locs : List Loc) (ls : Array Slot), va_P G.1 CL (PW G ph pd nr nc pL pG pB pk pa pt pm) H → va_D A (PW G ph pd nr nc pL pG pB pk pa pt pm) → va_S A s.heap H locs → lv_has ls 3 [(2, .int (nI (97 + v))), (1, .int (bI bb)), (0, .ref ph)] → W p l e (⟨1, 0, 0, 24⟩ : Room) s m args below meth cd H locs 0 0 Q (F0 m 5 ls []) := by
    intro f
    induction f with
    | zero => intro v bb hf; exact absurd hf (Nat.not_lt_zero _)
    | succ f ih5 =>
      intro v bb hf hi hn H locs ls hP hD hS hl
      refine lv_iload_n hx hb dX2_isLacking_5 rfl (lv_at hl 0 rfl) ?_
      refine lv_bipush (v := nI 108) hx hb dX2_isLacking_6 (by decide) ?_
      refine n_cmp_gt (tgt := 54) hx hb dX2_isLacking_8 (by decide) (by omega) (by omega) (fun c8 => ?_) (fun c8 => ?_)
      · skip
        refine lv_iload_n hx hb dX2_isLacking_54 rfl (lv_at hl 1 rfl) ?_
        subst hQ
        exact ret_i hx hb hr hlk () (by rw [hn, lk, show v = 12 by omega]) hP hD hS (bI_nar _) dX2_isLacking_55
      · skip
        refine lv_iload_n hx hb dX2_isLacking_11 rfl (lv_at hl 1 rfl) ?_
        refine lv_aload_n hx hb dX2_isLacking_12 rfl (lv_at hl 2 rfl) ?_
        refine va_get (D := G.1) (ci := 1) (v := .ref (pd 1)) (C := RX2) (T := TX2) (N := 14) hx hb hts in_X2 hown hK hP 0 rfl rfl 3 (by decide) (hts _ q147) (fun _ h9 => h9) rfl dX2_isLacking_13 ?_
        refine lv_aload_n hx hb dX2_isLacking_16 rfl (lv_at hl 2 rfl) ?_
        refine callVi (As := []) (rest := [.ref (pd 1), .int (bI bb)]) (wc := (PW G ph pd nr nc pL pG pB pk pa pt pm)) (wr := ([] : va_W)) ⟨hx, hb, hml, hown, hts⟩ (m_X2_places l G ph pd nr nc pL pG pB pk pa pt pm ) (cwV 0 hts (lw_V q474 q475 q476 q89 q477) rfl rfl rfl (by decide +kernel) ⟨Nat.le_of_ble_eq_true rfl, Nat.le_of_ble_eq_true rfl⟩) hK hZ hA hP hD hS [0, 1, 2, 3, 4, 5] [] rfl rfl (by decide) (by decide) (by decide) 0 1 rfl rfl rfl hl.1 (Nat.le_of_ble_eq_true rfl) ⟨Nat.le_of_ble_eq_true rfl, Nat.le_of_ble_eq_true rfl⟩ rfl dX2_isLacking_17 (fun r9 u9 H locs hw9 hP hD hS => ?_)
        subst hw9
        have hP : va_P G.1 CL (PW G ph pd nr nc pL pG pB pk pa pt pm) _ := hP
        have hD : va_D A (PW G ph pd nr nc pL pG pB pk pa pt pm) := hD
        refine lv_iload_n hx hb dX2_isLacking_20 rfl (lv_at hl 0 rfl) ?_
        refine callSi (As := [.ref (pd 1), .int (nI (nr * nc)), .int (nI (97 + v))]) (rest := [.int (bI bb)]) (wc := (PW G ph pd nr nc pL pG pB pk pa pt pm)) (wr := ([] : va_W)) ⟨hx, hb, hml, hown, hts⟩ (m_X2_count__G l G ph pd nr nc pL pG pB pk pa pt pm (nr * nc) (97 + v) (by first | assumption | omega) (by first | assumption | omega) hG) (va_cwS 3 hts (lw_S q478 q479 q89 q480) rfl rfl rfl (by decide +kernel) ⟨Nat.le_of_ble_eq_true rfl, Nat.le_of_ble_eq_true rfl⟩) hK hZ hA hP hD hS [0, 1, 2, 3, 4, 5] [] rfl rfl (by decide) (by decide) (by decide) rfl hl.1 (Nat.le_of_ble_eq_true rfl) ⟨Nat.le_of_ble_eq_true rfl, Nat.le_of_ble_eq_true rfl⟩ rfl dX2_isLacking_21 (fun r9 u9 H locs hw9 hP hD hS => ?_)
        subst hw9
        have hP : va_P G.1 CL (PW G ph pd nr nc pL pG pB pk pa pt pm) _ := hP
        have hD : va_D A (PW G ph pd nr nc pL pG pB pk pa pt pm) := hD
        refine lv_aload_n hx hb dX2_isLacking_24 rfl (lv_at hl 2 rfl) ?_
        refine va_get (D := G.1) (ci := 1) (v := .ref (pd 0)) (C := RX2) (T := TX2) (N := 14) hx hb hts in_X2 hown hK hP 0 rfl rfl 2 (by decide) (hts _ q145) (fun _ h9 => h9) rfl dX2_isLacking_25 ?_
        refine lv_aload_n hx hb dX2_isLacking_28 rfl (lv_at hl 2 rfl) ?_
        refine callVi (As := []) (rest := [.ref (pd 0), .int (nI (tm pG (nr * nc) (97 + v))), .int (bI bb)]) (wc := (PW G ph pd nr nc pL pG pB pk pa pt pm)) (wr := ([] : va_W)) ⟨hx, hb, hml, hown, hts⟩ (m_X2_places l G ph pd nr nc pL pG pB pk pa pt pm ) (cwV 0 hts (lw_V q474 q475 q476 q89 q477) rfl rfl rfl (by decide +kernel) ⟨Nat.le_of_ble_eq_true rfl, Nat.le_of_ble_eq_true rfl⟩) hK hZ hA hP hD hS [0, 1, 2, 3, 4, 5] [] rfl rfl (by decide) (by decide) (by decide) 0 1 rfl rfl rfl hl.1 (Nat.le_of_ble_eq_true rfl) ⟨Nat.le_of_ble_eq_true rfl, Nat.le_of_ble_eq_true rfl⟩ rfl dX2_isLacking_29 (fun r9 u9 H locs hw9 hP hD hS => ?_)
        subst hw9
        have hP : va_P G.1 CL (PW G ph pd nr nc pL pG pB pk pa pt pm) _ := hP
        have hD : va_D A (PW G ph pd nr nc pL pG pB pk pa pt pm) := hD
        refine lv_iload_n hx hb dX2_isLacking_32 rfl (lv_at hl 0 rfl) ?_
        refine callSi (As := [.ref (pd 0), .int (nI (nr * nc)), .int (nI (97 + v))]) (rest := [.int (nI (tm pG (nr * nc) (97 + v))), .int (bI bb)]) (wc := (PW G ph pd nr nc pL pG pB pk pa pt pm)) (wr := ([] : va_W)) ⟨hx, hb, hml, hown, hts⟩ (m_X2_count__L l G ph pd nr nc pL pG pB pk pa pt pm (nr * nc) (97 + v) (by first | assumption | omega) (by first | assumption | omega) hL) (va_cwS 3 hts (lw_S q478 q479 q89 q480) rfl rfl rfl (by decide +kernel) ⟨Nat.le_of_ble_eq_true rfl, Nat.le_of_ble_eq_true rfl⟩) hK hZ hA hP hD hS [0, 1, 2, 3, 4, 5] [] rfl rfl (by decide) (by decide) (by decide) rfl hl.1 (Nat.le_of_ble_eq_true rfl) ⟨Nat.le_of_ble_eq_true rfl, Nat.le_of_ble_eq_true rfl⟩ rfl dX2_isLacking_33 (fun r9 u9 H locs hw9 hP hD hS => ?_)
        subst hw9
        have hP : va_P G.1 CL (PW G ph pd nr nc pL pG pB pk pa pt pm) _ := hP
        have hD : va_D A (PW G ph pd nr nc pL pG pB pk pa pt pm) := hD
        refine n_cmp_le (tgt := 43) hx hb dX2_isLacking_36 (by decide) (by have := tm_le pG (nr * nc) (97 + v); omega) (by have := tm_le pL (nr * nc) (97 + v); omega) (fun c36 => ?_) (fun c36 => ?_)
        · skip
          refine lv_iconst (v := nI 0) hx hb dX2_isLacking_43 (by decide) ?_
          refine b_ior (a := bb) (b := false) hx hb dX2_isLacking_44 ?_
          refine lv_istore_n (lv' := [(1, .int (bI (bb || false))), (2, .int (nI (97 + v))), (0, .ref ph)]) hx hb dX2_isLacking_45 rfl hl (by decide) rfl (fun ls hl => ?_)
          refine lv_iload_n hx hb dX2_isLacking_46 rfl (lv_at hl 1 rfl) ?_
          refine lv_iconst (v := nI 1) hx hb dX2_isLacking_47 (by decide) ?_
          refine n_iadd hx hb dX2_isLacking_48 ?_
          refine n_i2c hx hb (by omega) dX2_isLacking_49 ?_
          refine lv_istore_n (lv' := [(2, .int (nI ((97 + v) + 1))), (1, .int (bI (bb || false))), (0, .ref ph)]) hx hb dX2_isLacking_50 rfl hl (by decide) rfl (fun ls hl => ?_)
          refine lv_goto (tgt := 5) hx hb dX2_isLacking_51 (by decide) ?_
          exact ih5 (v + 1) (bb || false) (by omega) (by omega) (by simp [ay, hn, Nat.not_lt.mpr c36]) _ _ _ hP hD hS (lv_sub hl [0, 1, 2] rfl)
        · skip
          refine lv_iconst (v := nI 1) hx hb dX2_isLacking_39 (by decide) ?_
          refine lv_goto (tgt := 44) hx hb dX2_isLacking_40 (by decide) ?_
          refine b_ior (a := bb) (b := true) hx hb dX2_isLacking_44 ?_
          refine lv_istore_n (lv' := [(1, .int (bI (bb || true))), (2, .int (nI (97 + v))), (0, .ref ph)]) hx hb dX2_isLacking_45 rfl hl (by decide) rfl (fun ls hl => ?_)
          refine lv_iload_n hx hb dX2_isLacking_46 rfl (lv_at hl 1 rfl) ?_
          refine lv_iconst (v := nI 1) hx hb dX2_isLacking_47 (by decide) ?_
          refine n_iadd hx hb dX2_isLacking_48 ?_
          refine n_i2c hx hb (by omega) dX2_isLacking_49 ?_
          refine lv_istore_n (lv' := [(2, .int (nI ((97 + v) + 1))), (1, .int (bI (bb || true))), (0, .ref ph)]) hx hb dX2_isLacking_50 rfl hl (by decide) rfl (fun ls hl => ?_)
          refine lv_goto (tgt := 5) hx hb dX2_isLacking_51 (by decide) ?_
          exact ih5 (v + 1) (bb || true) (by omega) (by omega) (by simp [ay, hn, c36]) _ _ _ hP hD hS (lv_sub hl [0, 1, 2] rfl)
  exact lp5 _ 0 false (Nat.lt_succ_self _) (by omega) rfl _ _ _ hP hD hS (lv_sub hl [0, 1, 2] rfl)
set_option maxHeartbeats 4000000 in
set_option maxRecDepth 100000 in
theorem m_X2_hasParity (l : Launch) (G : GG) (ph : Nat) (pd : Nat → Nat) (nr : Nat) (nc : Nat) (pL : Nat → Nat) (pG : Nat → Nat) (pB : Nat → Bool) (pk : Nat → Int32) (pa : Nat → Nat) (pt : Nat → Nat) (pm : Nat) (am : Nat) (hd : 2 ≤ nr ∧ nr ≤ 3 ∧ 2 ≤ nc ∧ nc ≤ 3) (ham : am < 1000) (hL : ∀ i, pL i < 65536) (hG : ∀ i, pG i < 65536) : MM l G yX2_hasParity cX2_hasParity 2 (some .boolean) ⟨2, 0, 0, 46⟩ [.ref ph, .int (nI am)] (PW G ph pd nr nc pL pG pB pk pa pt pm) (Qi_ G (fun (r : Int32) (_ : Unit) => r = bI (pry pL pG (nr * nc) am)) (fun (_ : Unit) => (PW G ph pd nr nc pL pG pB pk pa pt pm))) := by
  refine MM.of (by decide) (Nat.le_of_ble_eq_true rfl) ?_
  intro p e s m args below meth cd A C hini hA hK hZ hP hD ls hl
  generalize hQ : MQ below ((Qi_ G (fun (r : Int32) (_ : Unit) => r = bI (pry pL pG (nr * nc) am)) (fun (_ : Unit) => (PW G ph pd nr nc pL pG pB pk pa pt pm))) A) args s (⟨2, 0, 0, 46⟩ : Room).cells (⟨2, 0, 0, 46⟩ : Room).slots A = Q
  obtain ⟨hx, hb, hr, hts, hown, hlk, hml⟩ := C
  have hown : s.vm.findClass RX2 = some m.cls := hown
  have hS : va_S A s.heap s.heap [] := va_S.rf
  have hl : lv_has ls 2 [(0, .ref ph), (1, .int (nI am))] := hl
  have hmu := dm_mul hd
  refine lv_aload_n hx hb dX2_hasParity_0 rfl (lv_at hl 0 rfl) ?_
  refine callVi (As := []) (rest := []) (wc := (PW G ph pd nr nc pL pG pB pk pa pt pm)) (wr := ([] : va_W)) ⟨hx, hb, hml, hown, hts⟩ (m_X2_unlike l G ph pd nr nc pL pG pB pk pa pt pm (by first | assumption | omega) (by first | assumption | omega)) (cwV 0 hts (lw_V q485 q486 q487 q89 q488) rfl rfl rfl (by decide +kernel) ⟨Nat.le_of_ble_eq_true rfl, Nat.le_of_ble_eq_true rfl⟩) hK hZ hA hP hD hS [0, 1, 2, 3, 4, 5] [] rfl rfl (by decide) (by decide) (by decide) 0 1 rfl rfl rfl hl.1 (Nat.le_of_ble_eq_true rfl) ⟨Nat.le_of_ble_eq_true rfl, Nat.le_of_ble_eq_true rfl⟩ rfl dX2_hasParity_1 (fun r9 u9 H locs hw9 hP hD hS => ?_)
  subst hw9
  have hP : va_P G.1 CL (PW G ph pd nr nc pL pG pB pk pa pt pm) _ := hP
  have hD : va_D A (PW G ph pd nr nc pL pG pB pk pa pt pm) := hD
  refine lv_aload_n hx hb dX2_hasParity_4 rfl (lv_at hl 0 rfl) ?_
  refine callVi (As := []) (rest := [.int (nI (ul pL (nr * nc)))]) (wc := (PW G ph pd nr nc pL pG pB pk pa pt pm)) (wr := ([] : va_W)) ⟨hx, hb, hml, hown, hts⟩ (m_X2_places l G ph pd nr nc pL pG pB pk pa pt pm ) (cwV 0 hts (lw_V q474 q475 q476 q89 q477) rfl rfl rfl (by decide +kernel) ⟨Nat.le_of_ble_eq_true rfl, Nat.le_of_ble_eq_true rfl⟩) hK hZ hA hP hD hS [0, 1, 2, 3, 4, 5] [] rfl rfl (by decide) (by decide) (by decide) 0 1 rfl rfl rfl hl.1 (Nat.le_of_ble_eq_true rfl) ⟨Nat.le_of_ble_eq_true rfl, Nat.le_of_ble_eq_true rfl⟩ rfl dX2_hasParity_5 (fun r9 u9 H locs hw9 hP hD hS => ?_)
  subst hw9
  have hP : va_P G.1 CL (PW G ph pd nr nc pL pG pB pk pa pt pm) _ := hP
  have hD : va_D A (PW G ph pd nr nc pL pG pB pk pa pt pm) := hD
  have h1 := cn_le (fun v => decide (0 < tm pL (nr * nc) (97 + v))) 12
  have h1 : ul pL (nr * nc) ≤ 12 := h1
  refine n_cmp_ne (tgt := 30) hx hb dX2_hasParity_8 (by decide) (by omega) (by omega) (fun c8 => ?_) (fun c8 => ?_)
  · skip
    refine lv_iconst (v := nI 0) hx hb dX2_hasParity_30 (by decide) ?_
    subst hQ
    exact ret_i hx hb hr hlk () (bI_0 (by first | (simp [pry, c8]; done) | (simp [pry, Nat.not_le.mpr c16]; done) | (simp [pry, c23]; done))) hP hD hS rfl dX2_hasParity_31
  · skip
    refine lv_aload_n hx hb dX2_hasParity_11 rfl (lv_at hl 0 rfl) ?_
    refine callVi (As := []) (rest := []) (wc := (PW G ph pd nr nc pL pG pB pk pa pt pm)) (wr := ([] : va_W)) ⟨hx, hb, hml, hown, hts⟩ (m_X2_anyMany l G ph pd nr nc pL pG pB pk pa pt pm (by first | assumption | omega) (by first | assumption | omega)) (cwV 0 hts (lw_V q489 q490 q491 q89 q492) rfl rfl rfl (by decide +kernel) ⟨Nat.le_of_ble_eq_true rfl, Nat.le_of_ble_eq_true rfl⟩) hK hZ hA hP hD hS [0, 1, 2, 3, 4, 5] [] rfl rfl (by decide) (by decide) (by decide) 0 1 rfl rfl rfl hl.1 (Nat.le_of_ble_eq_true rfl) ⟨Nat.le_of_ble_eq_true rfl, Nat.le_of_ble_eq_true rfl⟩ rfl dX2_hasParity_12 (fun r9 u9 H locs hw9 hP hD hS => ?_)
    subst hw9
    have hP : va_P G.1 CL (PW G ph pd nr nc pL pG pB pk pa pt pm) _ := hP
    have hD : va_D A (PW G ph pd nr nc pL pG pB pk pa pt pm) := hD
    refine lv_iload_n hx hb dX2_hasParity_15 rfl (lv_at hl 1 rfl) ?_
    have h2 := tm_le pG (nr * nc) 46
    refine n_cmp_gt (tgt := 30) hx hb dX2_hasParity_16 (by decide) (by omega) (by omega) (fun c16 => ?_) (fun c16 => ?_)
    · skip
      refine lv_iconst (v := nI 0) hx hb dX2_hasParity_30 (by decide) ?_
      subst hQ
      exact ret_i hx hb hr hlk () (bI_0 (by first | (simp [pry, c8]; done) | (simp [pry, Nat.not_le.mpr c16]; done) | (simp [pry, c23]; done))) hP hD hS rfl dX2_hasParity_31
    · skip
      refine lv_aload_n hx hb dX2_hasParity_19 rfl (lv_at hl 0 rfl) ?_
      refine callVi (As := []) (rest := []) (wc := (PW G ph pd nr nc pL pG pB pk pa pt pm)) (wr := ([] : va_W)) ⟨hx, hb, hml, hown, hts⟩ (m_X2_isLacking l G ph pd nr nc pL pG pB pk pa pt pm (by first | assumption | omega) (by first | assumption | omega) (by first | assumption | omega)) (cwV 0 hts (lw_V q470 q472 qs3 q89 q473) rfl rfl rfl (by decide +kernel) ⟨Nat.le_of_ble_eq_true rfl, Nat.le_of_ble_eq_true rfl⟩) hK hZ hA hP hD hS [0, 1, 2, 3, 4, 5] [] rfl rfl (by decide) (by decide) (by decide) 0 1 rfl rfl rfl hl.1 (Nat.le_of_ble_eq_true rfl) ⟨Nat.le_of_ble_eq_true rfl, Nat.le_of_ble_eq_true rfl⟩ rfl dX2_hasParity_20 (fun r9 u9 H locs hw9 hP hD hS => ?_)
      subst hw9
      have hP : va_P G.1 CL (PW G ph pd nr nc pL pG pB pk pa pt pm) _ := hP
      have hD : va_D A (PW G ph pd nr nc pL pG pB pk pa pt pm) := hD
      refine b_if_ne (tgt := 30) hx hb dX2_hasParity_23 (by decide) (fun c23 => ?_) (fun c23 => ?_)
      · skip
        refine lv_iconst (v := nI 0) hx hb dX2_hasParity_30 (by decide) ?_
        subst hQ
        exact ret_i hx hb hr hlk () (bI_0 (by first | (simp [pry, c8]; done) | (simp [pry, Nat.not_le.mpr c16]; done) | (simp [pry, c23]; done))) hP hD hS rfl dX2_hasParity_31
      · skip
        refine lv_iconst (v := nI 1) hx hb dX2_hasParity_26 (by decide) ?_
        refine lv_goto (tgt := 31) hx hb dX2_hasParity_27 (by decide) ?_
        subst hQ
        exact ret_i hx hb hr hlk () (bI_1 (by simp [pry, c8, c16, c23])) hP hD hS rfl dX2_hasParity_31
set_option maxHeartbeats 4000000 in
set_option maxRecDepth 100000 in
theorem m_X2_placeOf__L (l : Launch) (G : GG) (ph : Nat) (pd : Nat → Nat) (nr : Nat) (nc : Nat) (pL : Nat → Nat) (pG : Nat → Nat) (pB : Nat → Bool) (pk : Nat → Int32) (pa : Nat → Nat) (pt : Nat → Nat) (pm : Nat) (sg : Nat) (hd : 2 ≤ nr ∧ nr ≤ 3 ∧ 2 ≤ nc ∧ nc ≤ 3) (hsg : sg < 65536) (hL : ∀ i, pL i < 65536) : MM l G yX2_placeOf cX2_placeOf 4 (some .int) ⟨1, 0, 0, 20⟩ [.ref ph, .ref (pd 0), .int (nI sg)] (PW G ph pd nr nc pL pG pB pk pa pt pm) (Qi_ G (fun (r : Int32) (_ : Unit) => r = (oN (nr * nc) (fx (fun j => decide (pL j = sg)) (nr * nc)))) (fun (_ : Unit) => (PW G ph pd nr nc pL pG pB pk pa pt pm))) := by
  refine MM.of (by decide) (Nat.le_of_ble_eq_true rfl) ?_
  intro p e s m args below meth cd A C hini hA hK hZ hP hD ls hl
  generalize hQ : MQ below ((Qi_ G (fun (r : Int32) (_ : Unit) => r = (oN (nr * nc) (fx (fun j => decide (pL j = sg)) (nr * nc)))) (fun (_ : Unit) => (PW G ph pd nr nc pL pG pB pk pa pt pm))) A) args s (⟨1, 0, 0, 20⟩ : Room).cells (⟨1, 0, 0, 20⟩ : Room).slots A = Q
  obtain ⟨hx, hb, hr, hts, hown, hlk, hml⟩ := C
  have hown : s.vm.findClass RX2 = some m.cls := hown
  have hS : va_S A s.heap s.heap [] := va_S.rf
  have hl : lv_has ls 4 [(0, .ref ph), (1, .ref (pd 0)), (2, .int (nI sg))] := hl
  have hmu := dm_mul hd
  refine lv_iconst (v := nI 0) hx hb dX2_placeOf_0 (by decide) ?_
  refine lv_istore_n (lv' := [(3, .int (nI 0)), (0, .ref ph), (1, .ref (pd 0)), (2, .int (nI sg))]) hx hb dX2_placeOf_1 rfl hl (by decide) rfl (fun ls hl => ?_)
  have lp2 : ∀ (f : Nat) (i : Nat), nr * nc - i < f → (i ≤ nr * nc) → (fx (fun j => decide (pL j = sg)) i = i) → ∀ (H : Heap) (locs : List Loc) (ls : Array Slot), va_P G.1 CL (PW G ph pd nr nc pL pG pB pk pa pt pm) H → va_D A (PW G ph pd nr nc pL pG pB pk pa pt pm) → va_S A s.heap H locs → lv_has ls 4 [(3, .int (nI i)), (0, .ref ph), (1, .ref (pd 0)), (2, .int (nI sg))] → W p l e (⟨1, 0, 0, 20⟩ : Room) s m args below meth cd H locs 0 0 Q (F0 m 2 ls []) := by
    intro f
    induction f with
    | zero => intro i hf; exact absurd hf (Nat.not_lt_zero _)
    | succ f ih2 =>
      intro i hf hi hn H locs ls hP hD hS hl
      refine lv_iload_n hx hb dX2_placeOf_2 rfl (lv_at hl 0 rfl) ?_
      refine lv_aload_n hx hb dX2_placeOf_3 rfl (lv_at hl 1 rfl) ?_
      refine callVi (As := []) (rest := [.int (nI i)]) (wc := (PW G ph pd nr nc pL pG pB pk pa pt pm)) (wr := ([] : va_W)) ⟨hx, hb, hml, hown, hts⟩ (m_X2_places l G ph pd nr nc pL pG pB pk pa pt pm ) (cwV 0 hts (lw_V q474 q475 q476 q89 q477) rfl rfl rfl (by decide +kernel) ⟨Nat.le_of_ble_eq_true rfl, Nat.le_of_ble_eq_true rfl⟩) hK hZ hA hP hD hS [0, 1, 2, 3, 4, 5] [] rfl rfl (by decide) (by decide) (by decide) 0 1 rfl rfl rfl hl.1 (Nat.le_of_ble_eq_true rfl) ⟨Nat.le_of_ble_eq_true rfl, Nat.le_of_ble_eq_true rfl⟩ rfl dX2_placeOf_4 (fun r9 u9 H locs hw9 hP hD hS => ?_)
      subst hw9
      have hP : va_P G.1 CL (PW G ph pd nr nc pL pG pB pk pa pt pm) _ := hP
      have hD : va_D A (PW G ph pd nr nc pL pG pB pk pa pt pm) := hD
      refine n_cmp_ge (tgt := 25) hx hb dX2_placeOf_7 (by decide) (by omega) (by omega) (fun c7 => ?_) (fun c7 => ?_)
      · skip
        refine lv_iconst (v := (-1)) hx hb dX2_placeOf_25 (by decide) ?_
        subst hQ
        exact ret_i hx hb hr hlk () (by rw [show nr * nc = i by omega, hn, oN_ge (Nat.lt_irrefl _)]) hP hD hS rfl dX2_placeOf_26
      · skip
        refine lv_aload_n hx hb dX2_placeOf_10 rfl (lv_at hl 2 rfl) ?_
        refine lv_iload_n hx hb dX2_placeOf_11 rfl (lv_at hl 0 rfl) ?_
        refine n_cald hx hb hK hP 1 2 rfl rfl (by omega) (by decide) dX2_placeOf_12 ?_
        refine lv_iload_n hx hb dX2_placeOf_13 rfl (lv_at hl 3 rfl) ?_
        refine n_cmp_ne (tgt := 19) hx hb dX2_placeOf_14 (by decide) (by have := hL i; omega) (by omega) (fun c14 => ?_) (fun c14 => ?_)
        · skip
          refine lv_iinc (v := nI (i + 1)) (lv' := [(3, .int (nI (i + 1))), (0, .ref ph), (1, .ref (pd 0)), (2, .int (nI sg))]) hx hb dX2_placeOf_19 hl (k := 0) rfl (nI_add _ _) (by decide) rfl (fun ls hl => ?_)
          refine lv_goto (tgt := 2) hx hb dX2_placeOf_22 (by decide) ?_
          exact ih2 (i + 1) (by omega) (by omega) (fx_up hn (decide_eq_false c14)) _ _ _ hP hD hS (lv_sub hl [0, 1, 2, 3] rfl)
        · skip
          refine lv_iload_n hx hb dX2_placeOf_17 rfl (lv_at hl 0 rfl) ?_
          subst hQ
          exact ret_i hx hb hr hlk () (by rw [fx_lt (by omega) hn (decide_eq_true c14), oN_lt (by omega)]) hP hD hS rfl dX2_placeOf_18
  exact lp2 _ 0 (Nat.lt_succ_self _) (by omega) rfl _ _ _ hP hD hS (lv_sub hl [0, 1, 2, 3] rfl)
set_option maxHeartbeats 4000000 in
set_option maxRecDepth 100000 in
theorem m_X2_placeOf__G (l : Launch) (G : GG) (ph : Nat) (pd : Nat → Nat) (nr : Nat) (nc : Nat) (pL : Nat → Nat) (pG : Nat → Nat) (pB : Nat → Bool) (pk : Nat → Int32) (pa : Nat → Nat) (pt : Nat → Nat) (pm : Nat) (sg : Nat) (hd : 2 ≤ nr ∧ nr ≤ 3 ∧ 2 ≤ nc ∧ nc ≤ 3) (hsg : sg < 65536) (hL : ∀ i, pG i < 65536) : MM l G yX2_placeOf cX2_placeOf 4 (some .int) ⟨1, 0, 0, 20⟩ [.ref ph, .ref (pd 1), .int (nI sg)] (PW G ph pd nr nc pL pG pB pk pa pt pm) (Qi_ G (fun (r : Int32) (_ : Unit) => r = (oN (nr * nc) (fx (fun j => decide (pG j = sg)) (nr * nc)))) (fun (_ : Unit) => (PW G ph pd nr nc pL pG pB pk pa pt pm))) := by
  refine MM.of (by decide) (Nat.le_of_ble_eq_true rfl) ?_
  intro p e s m args below meth cd A C hini hA hK hZ hP hD ls hl
  generalize hQ : MQ below ((Qi_ G (fun (r : Int32) (_ : Unit) => r = (oN (nr * nc) (fx (fun j => decide (pG j = sg)) (nr * nc)))) (fun (_ : Unit) => (PW G ph pd nr nc pL pG pB pk pa pt pm))) A) args s (⟨1, 0, 0, 20⟩ : Room).cells (⟨1, 0, 0, 20⟩ : Room).slots A = Q
  obtain ⟨hx, hb, hr, hts, hown, hlk, hml⟩ := C
  have hown : s.vm.findClass RX2 = some m.cls := hown
  have hS : va_S A s.heap s.heap [] := va_S.rf
  have hl : lv_has ls 4 [(0, .ref ph), (1, .ref (pd 1)), (2, .int (nI sg))] := hl
  have hmu := dm_mul hd
  refine lv_iconst (v := nI 0) hx hb dX2_placeOf_0 (by decide) ?_
  refine lv_istore_n (lv' := [(3, .int (nI 0)), (0, .ref ph), (1, .ref (pd 1)), (2, .int (nI sg))]) hx hb dX2_placeOf_1 rfl hl (by decide) rfl (fun ls hl => ?_)
  have lp2 : ∀ (f : Nat) (i : Nat), nr * nc - i < f → (i ≤ nr * nc) → (fx (fun j => decide (pG j = sg)) i = i) → ∀ (H : Heap) (locs : List Loc) (ls : Array Slot), va_P G.1 CL (PW G ph pd nr nc pL pG pB pk pa pt pm) H → va_D A (PW G ph pd nr nc pL pG pB pk pa pt pm) → va_S A s.heap H locs → lv_has ls 4 [(3, .int (nI i)), (0, .ref ph), (1, .ref (pd 1)), (2, .int (nI sg))] → W p l e (⟨1, 0, 0, 20⟩ : Room) s m args below meth cd H locs 0 0 Q (F0 m 2 ls []) := by
    intro f
    induction f with
    | zero => intro i hf; exact absurd hf (Nat.not_lt_zero _)
    | succ f ih2 =>
      intro i hf hi hn H locs ls hP hD hS hl
      refine lv_iload_n hx hb dX2_placeOf_2 rfl (lv_at hl 0 rfl) ?_
      refine lv_aload_n hx hb dX2_placeOf_3 rfl (lv_at hl 1 rfl) ?_
      refine callVi (As := []) (rest := [.int (nI i)]) (wc := (PW G ph pd nr nc pL pG pB pk pa pt pm)) (wr := ([] : va_W)) ⟨hx, hb, hml, hown, hts⟩ (m_X2_places l G ph pd nr nc pL pG pB pk pa pt pm ) (cwV 0 hts (lw_V q474 q475 q476 q89 q477) rfl rfl rfl (by decide +kernel) ⟨Nat.le_of_ble_eq_true rfl, Nat.le_of_ble_eq_true rfl⟩) hK hZ hA hP hD hS [0, 1, 2, 3, 4, 5] [] rfl rfl (by decide) (by decide) (by decide) 0 1 rfl rfl rfl hl.1 (Nat.le_of_ble_eq_true rfl) ⟨Nat.le_of_ble_eq_true rfl, Nat.le_of_ble_eq_true rfl⟩ rfl dX2_placeOf_4 (fun r9 u9 H locs hw9 hP hD hS => ?_)
      subst hw9
      have hP : va_P G.1 CL (PW G ph pd nr nc pL pG pB pk pa pt pm) _ := hP
      have hD : va_D A (PW G ph pd nr nc pL pG pB pk pa pt pm) := hD
      refine n_cmp_ge (tgt := 25) hx hb dX2_placeOf_7 (by decide) (by omega) (by omega) (fun c7 => ?_) (fun c7 => ?_)
      · skip
        refine lv_iconst (v := (-1)) hx hb dX2_placeOf_25 (by decide) ?_
        subst hQ
        exact ret_i hx hb hr hlk () (by rw [show nr * nc = i by omega, hn, oN_ge (Nat.lt_irrefl _)]) hP hD hS rfl dX2_placeOf_26
      · skip
        refine lv_aload_n hx hb dX2_placeOf_10 rfl (lv_at hl 2 rfl) ?_
        refine lv_iload_n hx hb dX2_placeOf_11 rfl (lv_at hl 0 rfl) ?_
        refine n_cald hx hb hK hP 2 2 rfl rfl (by omega) (by decide) dX2_placeOf_12 ?_
        refine lv_iload_n hx hb dX2_placeOf_13 rfl (lv_at hl 3 rfl) ?_
        refine n_cmp_ne (tgt := 19) hx hb dX2_placeOf_14 (by decide) (by have := hL i; omega) (by omega) (fun c14 => ?_) (fun c14 => ?_)
        · skip
          refine lv_iinc (v := nI (i + 1)) (lv' := [(3, .int (nI (i + 1))), (0, .ref ph), (1, .ref (pd 1)), (2, .int (nI sg))]) hx hb dX2_placeOf_19 hl (k := 0) rfl (nI_add _ _) (by decide) rfl (fun ls hl => ?_)
          refine lv_goto (tgt := 2) hx hb dX2_placeOf_22 (by decide) ?_
          exact ih2 (i + 1) (by omega) (by omega) (fx_up hn (decide_eq_false c14)) _ _ _ hP hD hS (lv_sub hl [0, 1, 2, 3] rfl)
        · skip
          refine lv_iload_n hx hb dX2_placeOf_17 rfl (lv_at hl 0 rfl) ?_
          subst hQ
          exact ret_i hx hb hr hlk () (by rw [fx_lt (by omega) hn (decide_eq_true c14), oN_lt (by omega)]) hP hD hS rfl dX2_placeOf_18
  exact lp2 _ 0 (Nat.lt_succ_self _) (by omega) rfl _ _ _ hP hD hS (lv_sub hl [0, 1, 2, 3] rfl)
