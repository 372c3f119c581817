/-! ===== pure words of the puzzle ===== -/
/-- how many of the first n are so -/
def cn (P : Nat → Bool) : Nat → Nat
  | 0 => 0
  | k + 1 => cn P k + (if P k = true then 1 else 0)
def al (P : Nat → Bool) : Nat → Bool
  | 0 => true
  | k + 1 => al P k && P k
def ay (P : Nat → Bool) : Nat → Bool
  | 0 => false
  | k + 1 => ay P k || P k
def xr (P : Nat → Bool) : Nat → Bool
  | 0 => false
  | k + 1 => xr P k ^^ P k
def sm (f : Nat → Nat) : Nat → Nat
  | 0 => 0
  | k + 1 => sm f k + f k
theorem cn_t {P : Nat → Bool} {k : Nat} (h : P k = true) : cn P k + 1 = cn P (k + 1) := by simp [cn, h]
theorem cn_f {P : Nat → Bool} {k : Nat} (h : P k = false) : cn P k + 0 = cn P (k + 1) := by simp [cn, h]
theorem cn_le (P : Nat → Bool) : ∀ n, cn P n ≤ n
  | 0 => Nat.le_refl 0
  | k + 1 => by have := cn_le P k; simp only [cn]; split <;> omega
theorem sm_le (f : Nat → Nat) (b : Nat) (h : ∀ k, f k ≤ b) : ∀ n, sm f n ≤ n * b
  | 0 => by simp [sm]
  | k + 1 => by have := sm_le f b h k; have := h k; simp only [sm, Nat.add_mul, Nat.one_mul]; omega
theorem cn_congr {P R : Nat → Bool} : ∀ {n : Nat}, (∀ k, k < n → P k = R k) → cn P n = cn R n
  | 0, _ => rfl
  | k + 1, h => by simp only [cn]; rw [cn_congr (fun j hj => h j (by omega)), h k (by omega)]
def isIx (p : Int32) (n : Nat) : Bool := decide (0 ≤ p.toInt ∧ p.toInt < (n : Int))
theorem in_ix {p : Int32} {n : Nat} (h0 : 0 < n) (h : n < 2147483648) : decide (nI 0 ≤ p ∧ p ≤ nI (n - 1)) = isIx p n := by
  unfold isIx
  have e1 : (nI 0 ≤ p) ↔ 0 ≤ p.toInt := by rw [Int32.le_iff_toInt_le, nI_toInt (by decide)]; rfl
  have e2 : (p ≤ nI (n - 1)) ↔ p.toInt < (n : Int) := by rw [Int32.le_iff_toInt_le, nI_toInt (by omega)]; omega
  rw [decide_eq_decide, e1, e2]
theorem isIx_t {p : Int32} {n : Nat} (h : isIx p n = true) (hn : n < 2147483648) : ∃ k, k < n ∧ p = nI k := by
  have h1 := of_decide_eq_true h
  refine ⟨p.toInt.toNat, by omega, ?_⟩
  apply Int32.toInt_inj.mp
  rw [nI_toInt (by omega)]; omega
theorem isIx_nI {k n : Nat} (hk : k < 2147483648) : isIx (nI k) n = decide (k < n) := by
  unfold isIx; rw [nI_toInt hk, decide_eq_decide]; omega
theorem dm_mul {nr nc : Nat} (h : 2 ≤ nr ∧ nr ≤ 3 ∧ 2 ≤ nc ∧ nc ≤ 3) : 4 ≤ nr * nc ∧ nr * nc ≤ 9 := by
  obtain ⟨a, b, c, d⟩ := h
  rcases (show nr = 2 ∨ nr = 3 by omega) with rfl | rfl <;> rcases (show nc = 2 ∨ nc = 3 by omega) with rfl | rfl <;> decide
def vw (c : Nat) : Bool := decide (c = 97 ∨ c = 101 ∨ c = 105 ∨ c = 111 ∨ c = 117)
def ft (x y : Nat) : Bool := decide (y = 46 ∨ y = x)
def szOf (nr nc line : Nat) : Nat := if line < nr then nc else nr
def plOn (nr nc line k : Nat) : Nat := if line < nr then line * nc + k else k * nc + line - nr
def onL (nr nc p line : Nat) : Bool := if line < nr then decide (p / nc = line) else decide (p % nc = line - nr)
def bk (t : Nat) : Nat := if t % 2 = 0 then t + 1 else t - 1
/-- where a place goes by a turn -/
def gs (nr nc p t : Nat) : Nat :=
  if t / 2 < nr then (if p / nc = t / 2 then p / nc * nc + (p % nc + (if t % 2 = 0 then 1 else nc - 1)) % nc else p)
  else (if p % nc = t / 2 - nr then (p / nc + (if t % 2 = 0 then 1 else nr - 1)) % nr * nc + p % nc else p)
/-- a board behind a turn -/
def tn (nr nc t : Nat) (L : Nat → Nat) : Nat → Nat := fun p => if p < nr * nc then L (gs nr nc p (bk t)) else L p
theorem szOf_lt {nr nc line : Nat} (h : 2 ≤ nr ∧ nr ≤ 3 ∧ 2 ≤ nc ∧ nc ≤ 3) : 2 ≤ szOf nr nc line ∧ szOf nr nc line ≤ 3 := by
  unfold szOf; split <;> omega
theorem plOn_lt {nr nc line k : Nat} (h : 2 ≤ nr ∧ nr ≤ 3 ∧ 2 ≤ nc ∧ nc ≤ 3) (hl : line < nr + nc) (hk : k < szOf nr nc line) : plOn nr nc line k < nr * nc ∧ plOn nr nc line k < 9 := by
  obtain ⟨a, b, c, d⟩ := h
  unfold szOf at hk; unfold plOn
  by_cases hlt : line < nr
  · rw [if_pos hlt] at hk ⊢
    rcases (show nr = 2 ∨ nr = 3 by omega) with rfl | rfl <;> rcases (show nc = 2 ∨ nc = 3 by omega) with rfl | rfl <;> omega
  · rw [if_neg hlt] at hk ⊢
    rcases (show nr = 2 ∨ nr = 3 by omega) with rfl | rfl <;> rcases (show nc = 2 ∨ nc = 3 by omega) with rfl | rfl <;> omega
def hm (nr nc : Nat) (L K : Nat → Nat) : Nat := cn (fun k => ft (L k) (K k)) (nr * nc)
theorem hm_le (nr nc : Nat) (L K : Nat → Nat) : hm nr nc L K ≤ nr * nc := cn_le _ _
abbrev PW (G : GG) (h : Nat) (ad : Nat → Nat) (nr nc : Nat) (L K : Nat → Nat) (B : Nat → Bool) (k : Nat → Int32) (a t : Nat → Nat) (n : Nat) : va_W := [(h, .inr (1, [.int (nI nr), .int (nI nc), .ref (ad 0), .ref (ad 1), .ref (ad 2), .int (k 0), .int (k 1), .int (k 2), .int (k 3), .int (k 4), .int (k 5), .ref (ad 3), .ref (ad 4), .int (nI n)])), (ad 0, .inl (G.2.1 2, 9, .inl (nA L))), (ad 1, .inl (G.2.1 2, 9, .inl (nA K))), (ad 2, .inl (G.2.1 0, 6, .inl (bA B))), (ad 3, .inl (G.2.1 2, 1413, .inl (nA a))), (ad 4, .inl (G.2.1 3, 157, .inl (nA t)))]
set_option maxHeartbeats 4000000 in
set_option maxRecDepth 100000 in
theorem m_X1_in (l : Launch) (G : GG) (iv : Int32) (lo : Int32) (hi : Int32)  : MM l G yX1_in cX1_in 3 (some .boolean) ⟨0, 0, 0, 0⟩ [.int iv, .int lo, .int hi] ([] : va_W) (Qi_ G (fun (r : Int32) (_ : Unit) => r = bI (decide (lo ≤ iv ∧ iv ≤ hi))) (fun (_ : Unit) => ([] : va_W))) := by
  refine MM.of (by decide) (Nat.le_of_ble_eq_true rfl) ?_
  intro p e s m args below meth cd A C hini hA hK hZ hP hD ls hl
  generalize hQ : MQ below ((Qi_ G (fun (r : Int32) (_ : Unit) => r = bI (decide (lo ≤ iv ∧ iv ≤ hi))) (fun (_ : Unit) => ([] : va_W))) A) args s (⟨0, 0, 0, 0⟩ : Room).cells (⟨0, 0, 0, 0⟩ : Room).slots A = Q
  obtain ⟨hx, hb, hr, hts, hown, hlk, hml⟩ := C
  have hown : s.vm.findClass RX1 = some m.cls := hown
  have hS : va_S A s.heap s.heap [] := va_S.rf
  have hl : lv_has ls 3 [(0, .int iv), (1, .int lo), (2, .int hi)] := hl
  refine lv_iload_n hx hb dX1_in_0 rfl (lv_at hl 0 rfl) ?_
  refine lv_iload_n hx hb dX1_in_1 rfl (lv_at hl 1 rfl) ?_
  refine lv_icmp_lt (tgt := 14) hx hb dX1_in_2 (by decide) (fun c2 => ?_) (fun c2 => ?_)
  · skip
    refine lv_iconst (v := nI 0) hx hb dX1_in_14 (by decide) ?_
    subst hQ
    exact ret_i hx hb hr hlk () (bI_d0 (by first | exact fun h => absurd h.1 (Int32.not_le.mpr c2) | exact fun h => absurd h.2 (Int32.not_le.mpr c7))) hP hD hS rfl dX1_in_15
  · skip
    refine lv_iload_n hx hb dX1_in_5 rfl (lv_at hl 0 rfl) ?_
    refine lv_iload_n hx hb dX1_in_6 rfl (lv_at hl 2 rfl) ?_
    refine lv_icmp_gt (tgt := 14) hx hb dX1_in_7 (by decide) (fun c7 => ?_) (fun c7 => ?_)
    · skip
      refine lv_iconst (v := nI 0) hx hb dX1_in_14 (by decide) ?_
      subst hQ
      exact ret_i hx hb hr hlk () (bI_d0 (by first | exact fun h => absurd h.1 (Int32.not_le.mpr c2) | exact fun h => absurd h.2 (Int32.not_le.mpr c7))) hP hD hS rfl dX1_in_15
    · skip
      refine lv_iconst (v := nI 1) hx hb dX1_in_10 (by decide) ?_
      refine lv_goto (tgt := 15) hx hb dX1_in_11 (by decide) ?_
      subst hQ
      exact ret_i hx hb hr hlk () (bI_d1 ⟨Int32.not_lt.mp c2, Int32.not_lt.mp c7⟩) hP hD hS rfl dX1_in_15
set_option maxHeartbeats 4000000 in
set_option maxRecDepth 100000 in
theorem m_X1_isVowel (l : Launch) (G : GG) (cv : Nat) (hcv : cv < 65536) : MM l G yX1_isVowel cX1_isVowel 1 (some .boolean) ⟨0, 0, 0, 0⟩ [.int (nI cv)] ([] : va_W) (Qi_ G (fun (r : Int32) (_ : Unit) => r = bI (vw cv)) (fun (_ : Unit) => ([] : va_W))) := by
  refine MM.of (by decide) (Nat.le_of_ble_eq_true rfl) ?_
  intro p e s m args below meth cd A C hini hA hK hZ hP hD ls hl
  generalize hQ : MQ below ((Qi_ G (fun (r : Int32) (_ : Unit) => r = bI (vw cv)) (fun (_ : Unit) => ([] : va_W))) A) args s (⟨0, 0, 0, 0⟩ : Room).cells (⟨0, 0, 0, 0⟩ : Room).slots A = Q
  obtain ⟨hx, hb, hr, hts, hown, hlk, hml⟩ := C
  have hown : s.vm.findClass RX1 = some m.cls := hown
  have hS : va_S A s.heap s.heap [] := va_S.rf
  have hl : lv_has ls 1 [(0, .int (nI cv))] := hl
  refine lv_iload_n hx hb dX1_isVowel_0 rfl (lv_at hl 0 rfl) ?_
  refine lv_bipush (v := nI 97) hx hb dX1_isVowel_1 (by decide) ?_
  refine n_cmp_eq (tgt := 30) hx hb dX1_isVowel_3 (by decide) (by omega) (by omega) (fun c3 => ?_) (fun c3 => ?_)
  · skip
    refine lv_iconst (v := nI 1) hx hb dX1_isVowel_30 (by decide) ?_
    refine lv_goto (tgt := 35) hx hb dX1_isVowel_31 (by decide) ?_
    subst hQ
    exact ret_i hx hb hr hlk () (bI_d1 (by omega)) hP hD hS rfl dX1_isVowel_35
  · skip
    refine lv_iload_n hx hb dX1_isVowel_6 rfl (lv_at hl 0 rfl) ?_
    refine lv_bipush (v := nI 101) hx hb dX1_isVowel_7 (by decide) ?_
    refine n_cmp_eq (tgt := 30) hx hb dX1_isVowel_9 (by decide) (by omega) (by omega) (fun c9 => ?_) (fun c9 => ?_)
    · skip
      refine lv_iconst (v := nI 1) hx hb dX1_isVowel_30 (by decide) ?_
      refine lv_goto (tgt := 35) hx hb dX1_isVowel_31 (by decide) ?_
      subst hQ
      exact ret_i hx hb hr hlk () (bI_d1 (by omega)) hP hD hS rfl dX1_isVowel_35
    · skip
      refine lv_iload_n hx hb dX1_isVowel_12 rfl (lv_at hl 0 rfl) ?_
      refine lv_bipush (v := nI 105) hx hb dX1_isVowel_13 (by decide) ?_
      refine n_cmp_eq (tgt := 30) hx hb dX1_isVowel_15 (by decide) (by omega) (by omega) (fun c15 => ?_) (fun c15 => ?_)
      · skip
        refine lv_iconst (v := nI 1) hx hb dX1_isVowel_30 (by decide) ?_
        refine lv_goto (tgt := 35) hx hb dX1_isVowel_31 (by decide) ?_
        subst hQ
        exact ret_i hx hb hr hlk () (bI_d1 (by omega)) hP hD hS rfl dX1_isVowel_35
      · skip
        refine lv_iload_n hx hb dX1_isVowel_18 rfl (lv_at hl 0 rfl) ?_
        refine lv_bipush (v := nI 111) hx hb dX1_isVowel_19 (by decide) ?_
        refine n_cmp_eq (tgt := 30) hx hb dX1_isVowel_21 (by decide) (by omega) (by omega) (fun c21 => ?_) (fun c21 => ?_)
        · skip
          refine lv_iconst (v := nI 1) hx hb dX1_isVowel_30 (by decide) ?_
          refine lv_goto (tgt := 35) hx hb dX1_isVowel_31 (by decide) ?_
          subst hQ
          exact ret_i hx hb hr hlk () (bI_d1 (by omega)) hP hD hS rfl dX1_isVowel_35
        · skip
          refine lv_iload_n hx hb dX1_isVowel_24 rfl (lv_at hl 0 rfl) ?_
          refine lv_bipush (v := nI 117) hx hb dX1_isVowel_25 (by decide) ?_
          refine n_cmp_ne (tgt := 34) hx hb dX1_isVowel_27 (by decide) (by omega) (by omega) (fun c27 => ?_) (fun c27 => ?_)
          · skip
            refine lv_iconst (v := nI 0) hx hb dX1_isVowel_34 (by decide) ?_
            subst hQ
            exact ret_i hx hb hr hlk () (bI_d0 (by omega)) hP hD hS rfl dX1_isVowel_35
          · skip
            refine lv_iconst (v := nI 1) hx hb dX1_isVowel_30 (by decide) ?_
            refine lv_goto (tgt := 35) hx hb dX1_isVowel_31 (by decide) ?_
            subst hQ
            exact ret_i hx hb hr hlk () (bI_d1 (by omega)) hP hD hS rfl dX1_isVowel_35
set_option maxHeartbeats 4000000 in
set_option maxRecDepth 100000 in
theorem m_X1_isLetter (l : Launch) (G : GG) (cv : Nat) (hcv : cv < 65536) : MM l G yX1_isLetter cX1_isLetter 1 (some .boolean) ⟨1, 0, 0, 22⟩ [.int (nI cv)] ([] : va_W) (Qi_ G (fun (r : Int32) (_ : Unit) => r = bI (decide (97 ≤ cv ∧ cv ≤ 108))) (fun (_ : Unit) => ([] : va_W))) := by
  refine MM.of (by decide) (Nat.le_of_ble_eq_true rfl) ?_
  intro p e s m args below meth cd A C hini hA hK hZ hP hD ls hl
  generalize hQ : MQ below ((Qi_ G (fun (r : Int32) (_ : Unit) => r = bI (decide (97 ≤ cv ∧ cv ≤ 108))) (fun (_ : Unit) => ([] : va_W))) A) args s (⟨1, 0, 0, 22⟩ : Room).cells (⟨1, 0, 0, 22⟩ : Room).slots A = Q
  obtain ⟨hx, hb, hr, hts, hown, hlk, hml⟩ := C
  have hown : s.vm.findClass RX1 = some m.cls := hown
  have hS : va_S A s.heap s.heap [] := va_S.rf
  have hl : lv_has ls 1 [(0, .int (nI cv))] := hl
  refine lv_iload_n hx hb dX1_isLetter_0 rfl (lv_at hl 0 rfl) ?_
  refine lv_bipush (v := nI 97) hx hb dX1_isLetter_1 (by decide) ?_
  refine lv_bipush (v := nI 108) hx hb dX1_isLetter_3 (by decide) ?_
  refine callSi (As := [.int (nI cv), .int (nI 97), .int (nI 108)]) (rest := []) (wc := ([] : va_W)) (wr := ([] : va_W)) ⟨hx, hb, hml, hown, hts⟩ (m_X1_in l G (nI cv) (nI 97) (nI 108) ) (va_cwS 3 hts (lw_S q1113 q1114 q88 q1115) rfl rfl rfl (by decide +kernel) ⟨Nat.le_of_ble_eq_true rfl, Nat.le_of_ble_eq_true rfl⟩) hK hZ hA hP hD hS [] [] rfl rfl (by decide) (by decide) (by decide) rfl hl.1 (Nat.le_of_ble_eq_true rfl) ⟨Nat.le_of_ble_eq_true rfl, Nat.le_of_ble_eq_true rfl⟩ rfl dX1_isLetter_5 (fun r9 u9 H locs hw9 hP hD hS => ?_)
  subst hw9
  have hP : va_P G.1 CL ([] : va_W) _ := hP
  have hD : va_D A ([] : va_W) := hD
  subst hQ
  exact ret_i hx hb hr hlk () (congrArg bI (by rw [decide_eq_decide, nI_leI (by omega) (by omega), nI_leI (by omega) (by omega)])) hP hD hS (bI_nar _) dX1_isLetter_8
set_option maxHeartbeats 4000000 in
set_option maxRecDepth 100000 in
theorem m_X1_isBoard (l : Launch) (G : GG) (br : Int32) (bc : Int32)  : MM l G yX1_isBoard cX1_isBoard 2 (some .boolean) ⟨1, 0, 0, 22⟩ [.int br, .int bc] ([] : va_W) (Qi_ G (fun (r : Int32) (_ : Unit) => r = bI (decide (nI 2 ≤ br ∧ br ≤ nI 3) && decide (nI 2 ≤ bc ∧ bc ≤ nI 3))) (fun (_ : Unit) => ([] : va_W))) := by
  refine MM.of (by decide) (Nat.le_of_ble_eq_true rfl) ?_
  intro p e s m args below meth cd A C hini hA hK hZ hP hD ls hl
  generalize hQ : MQ below ((Qi_ G (fun (r : Int32) (_ : Unit) => r = bI (decide (nI 2 ≤ br ∧ br ≤ nI 3) && decide (nI 2 ≤ bc ∧ bc ≤ nI 3))) (fun (_ : Unit) => ([] : va_W))) A) args s (⟨1, 0, 0, 22⟩ : Room).cells (⟨1, 0, 0, 22⟩ : Room).slots A = Q
  obtain ⟨hx, hb, hr, hts, hown, hlk, hml⟩ := C
  have hown : s.vm.findClass RX1 = some m.cls := hown
  have hS : va_S A s.heap s.heap [] := va_S.rf
  have hl : lv_has ls 2 [(0, .int br), (1, .int bc)] := hl
  refine lv_iload_n hx hb dX1_isBoard_0 rfl (lv_at hl 0 rfl) ?_
  refine lv_iconst (v := nI 2) hx hb dX1_isBoard_1 (by decide) ?_
  refine lv_iconst (v := nI 3) hx hb dX1_isBoard_2 (by decide) ?_
  refine callSi (As := [.int br, .int (nI 2), .int (nI 3)]) (rest := []) (wc := ([] : va_W)) (wr := ([] : va_W)) ⟨hx, hb, hml, hown, hts⟩ (m_X1_in l G br (nI 2) (nI 3) ) (va_cwS 3 hts (lw_S q1113 q1114 q88 q1115) rfl rfl rfl (by decide +kernel) ⟨Nat.le_of_ble_eq_true rfl, Nat.le_of_ble_eq_true rfl⟩) hK hZ hA hP hD hS [] [] rfl rfl (by decide) (by decide) (by decide) rfl hl.1 (Nat.le_of_ble_eq_true rfl) ⟨Nat.le_of_ble_eq_true rfl, Nat.le_of_ble_eq_true rfl⟩ rfl dX1_isBoard_3 (fun r9 u9 H locs hw9 hP hD hS => ?_)
  subst hw9
  have hP : va_P G.1 CL ([] : va_W) _ := hP
  have hD : va_D A ([] : va_W) := hD
  refine b_if_eq (tgt := 22) hx hb dX1_isBoard_6 (by decide) (fun c6 => ?_) (fun c6 => ?_)
  · skip
    refine lv_iconst (v := nI 0) hx hb dX1_isBoard_22 (by decide) ?_
    subst hQ
    exact ret_i hx hb hr hlk () (bI_0 (by first | (rw [c6]; rfl) | (rw [c15, Bool.and_false]))) hP hD hS rfl dX1_isBoard_23
  · skip
    refine lv_iload_n hx hb dX1_isBoard_9 rfl (lv_at hl 1 rfl) ?_
    refine lv_iconst (v := nI 2) hx hb dX1_isBoard_10 (by decide) ?_
    refine lv_iconst (v := nI 3) hx hb dX1_isBoard_11 (by decide) ?_
    refine callSi (As := [.int bc, .int (nI 2), .int (nI 3)]) (rest := []) (wc := ([] : va_W)) (wr := ([] : va_W)) ⟨hx, hb, hml, hown, hts⟩ (m_X1_in l G bc (nI 2) (nI 3) ) (va_cwS 3 hts (lw_S q1113 q1114 q88 q1115) rfl rfl rfl (by decide +kernel) ⟨Nat.le_of_ble_eq_true rfl, Nat.le_of_ble_eq_true rfl⟩) hK hZ hA hP hD hS [] [] rfl rfl (by decide) (by decide) (by decide) rfl hl.1 (Nat.le_of_ble_eq_true rfl) ⟨Nat.le_of_ble_eq_true rfl, Nat.le_of_ble_eq_true rfl⟩ rfl dX1_isBoard_12 (fun r9 u9 H locs hw9 hP hD hS => ?_)
    subst hw9
    have hP : va_P G.1 CL ([] : va_W) _ := hP
    have hD : va_D A ([] : va_W) := hD
    refine b_if_eq (tgt := 22) hx hb dX1_isBoard_15 (by decide) (fun c15 => ?_) (fun c15 => ?_)
    · skip
      refine lv_iconst (v := nI 0) hx hb dX1_isBoard_22 (by decide) ?_
      subst hQ
      exact ret_i hx hb hr hlk () (bI_0 (by first | (rw [c6]; rfl) | (rw [c15, Bool.and_false]))) hP hD hS rfl dX1_isBoard_23
    · skip
      refine lv_iconst (v := nI 1) hx hb dX1_isBoard_18 (by decide) ?_
      refine lv_goto (tgt := 23) hx hb dX1_isBoard_19 (by decide) ?_
      subst hQ
      exact ret_i hx hb hr hlk () (bI_1 (by rw [c6, c15]; rfl)) hP hD hS rfl dX1_isBoard_23
set_option maxHeartbeats 4000000 in
set_option maxRecDepth 100000 in
theorem m_X1_isScramble (l : Launch) (G : GG) (br : Int32) (bc : Int32)  : MM l G yX1_isScramble cX1_isScramble 2 (some .boolean) ⟨1, 0, 0, 22⟩ [.int br, .int bc] ([] : va_W) (Qi_ G (fun (r : Int32) (_ : Unit) => r = bI (decide (nI 0 ≤ br ∧ br ≤ nI 999) && decide (nI 1 ≤ bc ∧ bc ≤ nI 9))) (fun (_ : Unit) => ([] : va_W))) := by
  refine MM.of (by decide) (Nat.le_of_ble_eq_true rfl) ?_
  intro p e s m args below meth cd A C hini hA hK hZ hP hD ls hl
  generalize hQ : MQ below ((Qi_ G (fun (r : Int32) (_ : Unit) => r = bI (decide (nI 0 ≤ br ∧ br ≤ nI 999) && decide (nI 1 ≤ bc ∧ bc ≤ nI 9))) (fun (_ : Unit) => ([] : va_W))) A) args s (⟨1, 0, 0, 22⟩ : Room).cells (⟨1, 0, 0, 22⟩ : Room).slots A = Q
  obtain ⟨hx, hb, hr, hts, hown, hlk, hml⟩ := C
  have hown : s.vm.findClass RX1 = some m.cls := hown
  have hS : va_S A s.heap s.heap [] := va_S.rf
  have hl : lv_has ls 2 [(0, .int br), (1, .int bc)] := hl
  refine lv_iload_n hx hb dX1_isScramble_0 rfl (lv_at hl 0 rfl) ?_
  refine lv_iconst (v := nI 0) hx hb dX1_isScramble_1 (by decide) ?_
  refine lv_sipush (v := nI 999) hx hb dX1_isScramble_2 (by decide) ?_
  refine callSi (As := [.int br, .int (nI 0), .int (nI 999)]) (rest := []) (wc := ([] : va_W)) (wr := ([] : va_W)) ⟨hx, hb, hml, hown, hts⟩ (m_X1_in l G br (nI 0) (nI 999) ) (va_cwS 3 hts (lw_S q1113 q1114 q88 q1115) rfl rfl rfl (by decide +kernel) ⟨Nat.le_of_ble_eq_true rfl, Nat.le_of_ble_eq_true rfl⟩) hK hZ hA hP hD hS [] [] rfl rfl (by decide) (by decide) (by decide) rfl hl.1 (Nat.le_of_ble_eq_true rfl) ⟨Nat.le_of_ble_eq_true rfl, Nat.le_of_ble_eq_true rfl⟩ rfl dX1_isScramble_5 (fun r9 u9 H locs hw9 hP hD hS => ?_)
  subst hw9
  have hP : va_P G.1 CL ([] : va_W) _ := hP
  have hD : va_D A ([] : va_W) := hD
  refine b_if_eq (tgt := 25) hx hb dX1_isScramble_8 (by decide) (fun c8 => ?_) (fun c8 => ?_)
  · skip
    refine lv_iconst (v := nI 0) hx hb dX1_isScramble_25 (by decide) ?_
    subst hQ
    exact ret_i hx hb hr hlk () (bI_0 (by first | (rw [c8]; rfl) | (rw [c18, Bool.and_false]))) hP hD hS rfl dX1_isScramble_26
  · skip
    refine lv_iload_n hx hb dX1_isScramble_11 rfl (lv_at hl 1 rfl) ?_
    refine lv_iconst (v := nI 1) hx hb dX1_isScramble_12 (by decide) ?_
    refine lv_bipush (v := nI 9) hx hb dX1_isScramble_13 (by decide) ?_
    refine callSi (As := [.int bc, .int (nI 1), .int (nI 9)]) (rest := []) (wc := ([] : va_W)) (wr := ([] : va_W)) ⟨hx, hb, hml, hown, hts⟩ (m_X1_in l G bc (nI 1) (nI 9) ) (va_cwS 3 hts (lw_S q1113 q1114 q88 q1115) rfl rfl rfl (by decide +kernel) ⟨Nat.le_of_ble_eq_true rfl, Nat.le_of_ble_eq_true rfl⟩) hK hZ hA hP hD hS [] [] rfl rfl (by decide) (by decide) (by decide) rfl hl.1 (Nat.le_of_ble_eq_true rfl) ⟨Nat.le_of_ble_eq_true rfl, Nat.le_of_ble_eq_true rfl⟩ rfl dX1_isScramble_15 (fun r9 u9 H locs hw9 hP hD hS => ?_)
    subst hw9
    have hP : va_P G.1 CL ([] : va_W) _ := hP
    have hD : va_D A ([] : va_W) := hD
    refine b_if_eq (tgt := 25) hx hb dX1_isScramble_18 (by decide) (fun c18 => ?_) (fun c18 => ?_)
    · skip
      refine lv_iconst (v := nI 0) hx hb dX1_isScramble_25 (by decide) ?_
      subst hQ
      exact ret_i hx hb hr hlk () (bI_0 (by first | (rw [c8]; rfl) | (rw [c18, Bool.and_false]))) hP hD hS rfl dX1_isScramble_26
    · skip
      refine lv_iconst (v := nI 1) hx hb dX1_isScramble_21 (by decide) ?_
      refine lv_goto (tgt := 26) hx hb dX1_isScramble_22 (by decide) ?_
      subst hQ
      exact ret_i hx hb hr hlk () (bI_1 (by rw [c8, c18]; rfl)) hP hD hS rfl dX1_isScramble_26
set_option maxHeartbeats 4000000 in
set_option maxRecDepth 100000 in
theorem m_X2_places (l : Launch) (G : GG) (ph : Nat) (pd : Nat → Nat) (nr : Nat) (nc : Nat) (pL : Nat → Nat) (pG : Nat → Nat) (pB : Nat → Bool) (pk : Nat → Int32) (pa : Nat → Nat) (pt : Nat → Nat) (pm : Nat)  : MM l G yX2_places cX2_places 1 (some .int) ⟨0, 0, 0, 0⟩ [.ref ph] (PW G ph pd nr nc pL pG pB pk pa pt pm) (Qi_ G (fun (r : Int32) (_ : Unit) => r = nI (nr * nc)) (fun (_ : Unit) => (PW G ph pd nr nc pL pG pB pk pa pt pm))) := by
  refine MM.of (by decide) (Nat.le_of_ble_eq_true rfl) ?_
  intro p e s m args below meth cd A C hini hA hK hZ hP hD ls hl
  generalize hQ : MQ below ((Qi_ G (fun (r : Int32) (_ : Unit) => r = nI (nr * nc)) (fun (_ : Unit) => (PW G ph pd nr nc pL pG pB pk pa pt pm))) A) args s (⟨0, 0, 0, 0⟩ : Room).cells (⟨0, 0, 0, 0⟩ : Room).slots A = Q
  obtain ⟨hx, hb, hr, hts, hown, hlk, hml⟩ := C
  have hown : s.vm.findClass RX2 = some m.cls := hown
  have hS : va_S A s.heap s.heap [] := va_S.rf
  have hl : lv_has ls 1 [(0, .ref ph)] := hl
  refine lv_aload_n hx hb dX2_places_0 rfl (lv_at hl 0 rfl) ?_
  refine va_get (D := G.1) (ci := 1) (v := .int (nI nr)) (C := RX2) (T := TX2) (N := 14) hx hb hts in_X2 hown hK hP 0 rfl rfl 0 (by decide) (hts _ q141) (fun _ h9 => h9) rfl dX2_places_1 ?_
  refine lv_aload_n hx hb dX2_places_4 rfl (lv_at hl 0 rfl) ?_
  refine va_get (D := G.1) (ci := 1) (v := .int (nI nc)) (C := RX2) (T := TX2) (N := 14) hx hb hts in_X2 hown hK hP 0 rfl rfl 1 (by decide) (hts _ q143) (fun _ h9 => h9) rfl dX2_places_5 ?_
  refine n_imul hx hb dX2_places_8 ?_
  subst hQ
  exact ret_i hx hb hr hlk () rfl hP hD hS rfl dX2_places_9
set_option maxHeartbeats 4000000 in
set_option maxRecDepth 100000 in
theorem m_X2_lines (l : Launch) (G : GG) (ph : Nat) (pd : Nat → Nat) (nr : Nat) (nc : Nat) (pL : Nat → Nat) (pG : Nat → Nat) (pB : Nat → Bool) (pk : Nat → Int32) (pa : Nat → Nat) (pt : Nat → Nat) (pm : Nat)  : MM l G yX2_lines cX2_lines 1 (some .int) ⟨0, 0, 0, 0⟩ [.ref ph] (PW G ph pd nr nc pL pG pB pk pa pt pm) (Qi_ G (fun (r : Int32) (_ : Unit) => r = nI (nr + nc)) (fun (_ : Unit) => (PW G ph pd nr nc pL pG pB pk pa pt pm))) := by
  refine MM.of (by decide) (Nat.le_of_ble_eq_true rfl) ?_
  intro p e s m args below meth cd A C hini hA hK hZ hP hD ls hl
  generalize hQ : MQ below ((Qi_ G (fun (r : Int32) (_ : Unit) => r = nI (nr + nc)) (fun (_ : Unit) => (PW G ph pd nr nc pL pG pB pk pa pt pm))) A) args s (⟨0, 0, 0, 0⟩ : Room).cells (⟨0, 0, 0, 0⟩ : Room).slots A = Q
  obtain ⟨hx, hb, hr, hts, hown, hlk, hml⟩ := C
  have hown : s.vm.findClass RX2 = some m.cls := hown
  have hS : va_S A s.heap s.heap [] := va_S.rf
  have hl : lv_has ls 1 [(0, .ref ph)] := hl
  refine lv_aload_n hx hb dX2_lines_0 rfl (lv_at hl 0 rfl) ?_
  refine va_get (D := G.1) (ci := 1) (v := .int (nI nr)) (C := RX2) (T := TX2) (N := 14) hx hb hts in_X2 hown hK hP 0 rfl rfl 0 (by decide) (hts _ q141) (fun _ h9 => h9) rfl dX2_lines_1 ?_
  refine lv_aload_n hx hb dX2_lines_4 rfl (lv_at hl 0 rfl) ?_
  refine va_get (D := G.1) (ci := 1) (v := .int (nI nc)) (C := RX2) (T := TX2) (N := 14) hx hb hts in_X2 hown hK hP 0 rfl rfl 1 (by decide) (hts _ q143) (fun _ h9 => h9) rfl dX2_lines_5 ?_
  refine n_iadd hx hb dX2_lines_8 ?_
  subst hQ
  exact ret_i hx hb hr hlk () rfl hP hD hS rfl dX2_lines_9
set_option maxHeartbeats 4000000 in
set_option maxRecDepth 100000 in
theorem m_X2_turns (l : Launch) (G : GG) (ph : Nat) (pd : Nat → Nat) (nr : Nat) (nc : Nat) (pL : Nat → Nat) (pG : Nat → Nat) (pB : Nat → Bool) (pk : Nat → Int32) (pa : Nat → Nat) (pt : Nat → Nat) (pm : Nat)  : MM l G yX2_turns cX2_turns 1 (some .int) ⟨1, 0, 0, 20⟩ [.ref ph] (PW G ph pd nr nc pL pG pB pk pa pt pm) (Qi_ G (fun (r : Int32) (_ : Unit) => r = nI (2 * (nr + nc))) (fun (_ : Unit) => (PW G ph pd nr nc pL pG pB pk pa pt pm))) := by
  refine MM.of (by decide) (Nat.le_of_ble_eq_true rfl) ?_
  intro p e s m args below meth cd A C hini hA hK hZ hP hD ls hl
  generalize hQ : MQ below ((Qi_ G (fun (r : Int32) (_ : Unit) => r = nI (2 * (nr + nc))) (fun (_ : Unit) => (PW G ph pd nr nc pL pG pB pk pa pt pm))) A) args s (⟨1, 0, 0, 20⟩ : Room).cells (⟨1, 0, 0, 20⟩ : Room).slots A = Q
  obtain ⟨hx, hb, hr, hts, hown, hlk, hml⟩ := C
  have hown : s.vm.findClass RX2 = some m.cls := hown
  have hS : va_S A s.heap s.heap [] := va_S.rf
  have hl : lv_has ls 1 [(0, .ref ph)] := hl
  refine lv_iconst (v := nI 2) hx hb dX2_turns_0 (by decide) ?_
  refine lv_aload_n hx hb dX2_turns_1 rfl (lv_at hl 0 rfl) ?_
  refine callVi (As := []) (rest := [.int (nI 2)]) (wc := (PW G ph pd nr nc pL pG pB pk pa pt pm)) (wr := ([] : va_W)) ⟨hx, hb, hml, hown, hts⟩ (m_X2_lines l G ph pd nr nc pL pG pB pk pa pt pm ) (cwV 0 hts (lw_V q1026 q541 q542 q89 q543) rfl rfl rfl (by decide +kernel) ⟨Nat.le_of_ble_eq_true rfl, Nat.le_of_ble_eq_true rfl⟩) hK hZ hA hP hD hS [0, 1, 2, 3, 4, 5] [] rfl rfl (by decide) (by decide) (by decide) 0 1 rfl rfl rfl hl.1 (Nat.le_of_ble_eq_true rfl) ⟨Nat.le_of_ble_eq_true rfl, Nat.le_of_ble_eq_true rfl⟩ rfl dX2_turns_2 (fun r9 u9 H locs hw9 hP hD hS => ?_)
  subst hw9
  have hP : va_P G.1 CL (PW G ph pd nr nc pL pG pB pk pa pt pm) _ := hP
  have hD : va_D A (PW G ph pd nr nc pL pG pB pk pa pt pm) := hD
  refine n_imul hx hb dX2_turns_5 ?_
  subst hQ
  exact ret_i hx hb hr hlk () rfl hP hD hS rfl dX2_turns_6
set_option maxHeartbeats 4000000 in
set_option maxRecDepth 100000 in
theorem m_X2_isPlace (l : Launch) (G : GG) (ph : Nat) (pd : Nat → Nat) (nr : Nat) (nc : Nat) (pL : Nat → Nat) (pG : Nat → Nat) (pB : Nat → Bool) (pk : Nat → Int32) (pa : Nat → Nat) (pt : Nat → Nat) (pm : Nat) (px : Int32) (hd : 2 ≤ nr ∧ nr ≤ 3 ∧ 2 ≤ nc ∧ nc ≤ 3) : MM l G yX2_isPlace cX2_isPlace 2 (some .boolean) ⟨1, 0, 0, 22⟩ [.ref ph, .int px] (PW G ph pd nr nc pL pG pB pk pa pt pm) (Qi_ G (fun (r : Int32) (_ : Unit) => r = bI (isIx px (nr * nc))) (fun (_ : Unit) => (PW G ph pd nr nc pL pG pB pk pa pt pm))) := by
  refine MM.of (by decide) (Nat.le_of_ble_eq_true rfl) ?_
  intro p e s m args below meth cd A C hini hA hK hZ hP hD ls hl
  generalize hQ : MQ below ((Qi_ G (fun (r : Int32) (_ : Unit) => r = bI (isIx px (nr * nc))) (fun (_ : Unit) => (PW G ph pd nr nc pL pG pB pk pa pt pm))) A) args s (⟨1, 0, 0, 22⟩ : Room).cells (⟨1, 0, 0, 22⟩ : Room).slots A = Q
  obtain ⟨hx, hb, hr, hts, hown, hlk, hml⟩ := C
  have hown : s.vm.findClass RX2 = some m.cls := hown
  have hS : va_S A s.heap s.heap [] := va_S.rf
  have hl : lv_has ls 2 [(0, .ref ph), (1, .int px)] := hl
  have hmu := dm_mul hd
  refine lv_iload_n hx hb dX2_isPlace_0 rfl (lv_at hl 1 rfl) ?_
  refine lv_iconst (v := nI 0) hx hb dX2_isPlace_1 (by decide) ?_
  refine lv_aload_n hx hb dX2_isPlace_2 rfl (lv_at hl 0 rfl) ?_
  refine callVi (As := []) (rest := [.int (nI 0), .int px]) (wc := (PW G ph pd nr nc pL pG pB pk pa pt pm)) (wr := ([] : va_W)) ⟨hx, hb, hml, hown, hts⟩ (m_X2_places l G ph pd nr nc pL pG pB pk pa pt pm ) (cwV 0 hts (lw_V q474 q475 q476 q89 q477) rfl rfl rfl (by decide +kernel) ⟨Nat.le_of_ble_eq_true rfl, Nat.le_of_ble_eq_true rfl⟩) hK hZ hA hP hD hS [0, 1, 2, 3, 4, 5] [] rfl rfl (by decide) (by decide) (by decide) 0 1 rfl rfl rfl hl.1 (Nat.le_of_ble_eq_true rfl) ⟨Nat.le_of_ble_eq_true rfl, Nat.le_of_ble_eq_true rfl⟩ rfl dX2_isPlace_3 (fun r9 u9 H locs hw9 hP hD hS => ?_)
  subst hw9
  have hP : va_P G.1 CL (PW G ph pd nr nc pL pG pB pk pa pt pm) _ := hP
  have hD : va_D A (PW G ph pd nr nc pL pG pB pk pa pt pm) := hD
  refine lv_iconst (v := nI 1) hx hb dX2_isPlace_6 (by decide) ?_
  refine n_isub hx hb (by omega) dX2_isPlace_7 ?_
  refine callSNi (As := [.int px, .int (nI 0), .int (nI ((nr * nc) - 1))]) (rest := []) (wc := ([] : va_W)) (wr := (PW G ph pd nr nc pL pG pB pk pa pt pm)) ⟨hx, hb, hml, hown, hts⟩ (m_X1_in l G px (nI 0) (nI ((nr * nc) - 1)) ) (va_cnB 3 hts (lw_meth q1115) rfl rfl rfl (KS.nw hZ q1188 rfl) (hts _ q88) (by decide +kernel) ⟨Nat.le_of_ble_eq_true rfl, Nat.le_of_ble_eq_true rfl⟩) (hts _ q1114) hK hZ hA hP hD hS [] [0, 1, 2, 3, 4, 5] rfl rfl (by decide) (by decide) (by decide) rfl hl.1 (Nat.le_of_ble_eq_true rfl) ⟨Nat.le_of_ble_eq_true rfl, Nat.le_of_ble_eq_true rfl⟩ rfl dX2_isPlace_8 (fun r9 u9 H locs hw9 hP hD hS => ?_)
  subst hw9
  have hP : va_P G.1 CL (PW G ph pd nr nc pL pG pB pk pa pt pm) _ := hP
  have hD : va_D A (PW G ph pd nr nc pL pG pB pk pa pt pm) := hD
  subst hQ
  exact ret_i hx hb hr hlk () (congrArg bI (in_ix (by omega) (by omega))) hP hD hS (bI_nar _) dX2_isPlace_11
set_option maxHeartbeats 4000000 in
set_option maxRecDepth 100000 in
theorem m_X2_isLine (l : Launch) (G : GG) (ph : Nat) (pd : Nat → Nat) (nr : Nat) (nc : Nat) (pL : Nat → Nat) (pG : Nat → Nat) (pB : Nat → Bool) (pk : Nat → Int32) (pa : Nat → Nat) (pt : Nat → Nat) (pm : Nat) (px : Int32) (hd : 2 ≤ nr ∧ nr ≤ 3 ∧ 2 ≤ nc ∧ nc ≤ 3) : MM l G yX2_isLine cX2_isLine 2 (some .boolean) ⟨1, 0, 0, 22⟩ [.ref ph, .int px] (PW G ph pd nr nc pL pG pB pk pa pt pm) (Qi_ G (fun (r : Int32) (_ : Unit) => r = bI (isIx px (nr + nc))) (fun (_ : Unit) => (PW G ph pd nr nc pL pG pB pk pa pt pm))) := by
  refine MM.of (by decide) (Nat.le_of_ble_eq_true rfl) ?_
  intro p e s m args below meth cd A C hini hA hK hZ hP hD ls hl
  generalize hQ : MQ below ((Qi_ G (fun (r : Int32) (_ : Unit) => r = bI (isIx px (nr + nc))) (fun (_ : Unit) => (PW G ph pd nr nc pL pG pB pk pa pt pm))) A) args s (⟨1, 0, 0, 22⟩ : Room).cells (⟨1, 0, 0, 22⟩ : Room).slots A = Q
  obtain ⟨hx, hb, hr, hts, hown, hlk, hml⟩ := C
  have hown : s.vm.findClass RX2 = some m.cls := hown
  have hS : va_S A s.heap s.heap [] := va_S.rf
  have hl : lv_has ls 2 [(0, .ref ph), (1, .int px)] := hl
  have hmu := dm_mul hd
  refine lv_iload_n hx hb dX2_isLine_0 rfl (lv_at hl 1 rfl) ?_
  refine lv_iconst (v := nI 0) hx hb dX2_isLine_1 (by decide) ?_
  refine lv_aload_n hx hb dX2_isLine_2 rfl (lv_at hl 0 rfl) ?_
  refine callVi (As := []) (rest := [.int (nI 0), .int px]) (wc := (PW G ph pd nr nc pL pG pB pk pa pt pm)) (wr := ([] : va_W)) ⟨hx, hb, hml, hown, hts⟩ (m_X2_lines l G ph pd nr nc pL pG pB pk pa pt pm ) (cwV 0 hts (lw_V q1026 q541 q542 q89 q543) rfl rfl rfl (by decide +kernel) ⟨Nat.le_of_ble_eq_true rfl, Nat.le_of_ble_eq_true rfl⟩) hK hZ hA hP hD hS [0, 1, 2, 3, 4, 5] [] rfl rfl (by decide) (by decide) (by decide) 0 1 rfl rfl rfl hl.1 (Nat.le_of_ble_eq_true rfl) ⟨Nat.le_of_ble_eq_true rfl, Nat.le_of_ble_eq_true rfl⟩ rfl dX2_isLine_3 (fun r9 u9 H locs hw9 hP hD hS => ?_)
  subst hw9
  have hP : va_P G.1 CL (PW G ph pd nr nc pL pG pB pk pa pt pm) _ := hP
  have hD : va_D A (PW G ph pd nr nc pL pG pB pk pa pt pm) := hD
  refine lv_iconst (v := nI 1) hx hb dX2_isLine_6 (by decide) ?_
  refine n_isub hx hb (by omega) dX2_isLine_7 ?_
  refine callSNi (As := [.int px, .int (nI 0), .int (nI ((nr + nc) - 1))]) (rest := []) (wc := ([] : va_W)) (wr := (PW G ph pd nr nc pL pG pB pk pa pt pm)) ⟨hx, hb, hml, hown, hts⟩ (m_X1_in l G px (nI 0) (nI ((nr + nc) - 1)) ) (va_cnB 3 hts (lw_meth q1115) rfl rfl rfl (KS.nw hZ q1188 rfl) (hts _ q88) (by decide +kernel) ⟨Nat.le_of_ble_eq_true rfl, Nat.le_of_ble_eq_true rfl⟩) (hts _ q1114) hK hZ hA hP hD hS [] [0, 1, 2, 3, 4, 5] rfl rfl (by decide) (by decide) (by decide) rfl hl.1 (Nat.le_of_ble_eq_true rfl) ⟨Nat.le_of_ble_eq_true rfl, Nat.le_of_ble_eq_true rfl⟩ rfl dX2_isLine_8 (fun r9 u9 H locs hw9 hP hD hS => ?_)
  subst hw9
  have hP : va_P G.1 CL (PW G ph pd nr nc pL pG pB pk pa pt pm) _ := hP
  have hD : va_D A (PW G ph pd nr nc pL pG pB pk pa pt pm) := hD
  subst hQ
  exact ret_i hx hb hr hlk () (congrArg bI (in_ix (by omega) (by omega))) hP hD hS (bI_nar _) dX2_isLine_11
set_option maxHeartbeats 4000000 in
set_option maxRecDepth 100000 in
theorem m_X2_isTurn (l : Launch) (G : GG) (ph : Nat) (pd : Nat → Nat) (nr : Nat) (nc : Nat) (pL : Nat → Nat) (pG : Nat → Nat) (pB : Nat → Bool) (pk : Nat → Int32) (pa : Nat → Nat) (pt : Nat → Nat) (pm : Nat) (px : Int32) (hd : 2 ≤ nr ∧ nr ≤ 3 ∧ 2 ≤ nc ∧ nc ≤ 3) : MM l G yX2_isTurn cX2_isTurn 2 (some .boolean) ⟨2, 0, 0, 40⟩ [.ref ph, .int px] (PW G ph pd nr nc pL pG pB pk pa pt pm) (Qi_ G (fun (r : Int32) (_ : Unit) => r = bI (isIx px (2 * (nr + nc)))) (fun (_ : Unit) => (PW G ph pd nr nc pL pG pB pk pa pt pm))) := by
  refine MM.of (by decide) (Nat.le_of_ble_eq_true rfl) ?_
  intro p e s m args below meth cd A C hini hA hK hZ hP hD ls hl
  generalize hQ : MQ below ((Qi_ G (fun (r : Int32) (_ : Unit) => r = bI (isIx px (2 * (nr + nc)))) (fun (_ : Unit) => (PW G ph pd nr nc pL pG pB pk pa pt pm))) A) args s (⟨2, 0, 0, 40⟩ : Room).cells (⟨2, 0, 0, 40⟩ : Room).slots A = Q
  obtain ⟨hx, hb, hr, hts, hown, hlk, hml⟩ := C
  have hown : s.vm.findClass RX2 = some m.cls := hown
  have hS : va_S A s.heap s.heap [] := va_S.rf
  have hl : lv_has ls 2 [(0, .ref ph), (1, .int px)] := hl
  have hmu := dm_mul hd
  refine lv_iload_n hx hb dX2_isTurn_0 rfl (lv_at hl 1 rfl) ?_
  refine lv_iconst (v := nI 0) hx hb dX2_isTurn_1 (by decide) ?_
  refine lv_aload_n hx hb dX2_isTurn_2 rfl (lv_at hl 0 rfl) ?_
  refine callVi (As := []) (rest := [.int (nI 0), .int px]) (wc := (PW G ph pd nr nc pL pG pB pk pa pt pm)) (wr := ([] : va_W)) ⟨hx, hb, hml, hown, hts⟩ (m_X2_turns l G ph pd nr nc pL pG pB pk pa pt pm ) (cwV 0 hts (lw_V q1022 q1023 q1024 q89 q1025) rfl rfl rfl (by decide +kernel) ⟨Nat.le_of_ble_eq_true rfl, Nat.le_of_ble_eq_true rfl⟩) hK hZ hA hP hD hS [0, 1, 2, 3, 4, 5] [] rfl rfl (by decide) (by decide) (by decide) 0 1 rfl rfl rfl hl.1 (Nat.le_of_ble_eq_true rfl) ⟨Nat.le_of_ble_eq_true rfl, Nat.le_of_ble_eq_true rfl⟩ rfl dX2_isTurn_3 (fun r9 u9 H locs hw9 hP hD hS => ?_)
  subst hw9
  have hP : va_P G.1 CL (PW G ph pd nr nc pL pG pB pk pa pt pm) _ := hP
  have hD : va_D A (PW G ph pd nr nc pL pG pB pk pa pt pm) := hD
  refine lv_iconst (v := nI 1) hx hb dX2_isTurn_6 (by decide) ?_
  refine n_isub hx hb (by omega) dX2_isTurn_7 ?_
  refine callSNi (As := [.int px, .int (nI 0), .int (nI ((2 * (nr + nc)) - 1))]) (rest := []) (wc := ([] : va_W)) (wr := (PW G ph pd nr nc pL pG pB pk pa pt pm)) ⟨hx, hb, hml, hown, hts⟩ (m_X1_in l G px (nI 0) (nI ((2 * (nr + nc)) - 1)) ) (va_cnB 3 hts (lw_meth q1115) rfl rfl rfl (KS.nw hZ q1188 rfl) (hts _ q88) (by decide +kernel) ⟨Nat.le_of_ble_eq_true rfl, Nat.le_of_ble_eq_true rfl⟩) (hts _ q1114) hK hZ hA hP hD hS [] [0, 1, 2, 3, 4, 5] rfl rfl (by decide) (by decide) (by decide) rfl hl.1 (Nat.le_of_ble_eq_true rfl) ⟨Nat.le_of_ble_eq_true rfl, Nat.le_of_ble_eq_true rfl⟩ rfl dX2_isTurn_8 (fun r9 u9 H locs hw9 hP hD hS => ?_)
  subst hw9
  have hP : va_P G.1 CL (PW G ph pd nr nc pL pG pB pk pa pt pm) _ := hP
  have hD : va_D A (PW G ph pd nr nc pL pG pB pk pa pt pm) := hD
  subst hQ
  exact ret_i hx hb hr hlk () (congrArg bI (in_ix (by omega) (by omega))) hP hD hS (bI_nar _) dX2_isTurn_11
set_option maxHeartbeats 4000000 in
set_option maxRecDepth 100000 in
theorem m_X2_sizeOf (l : Launch) (G : GG) (ph : Nat) (pd : Nat → Nat) (nr : Nat) (nc : Nat) (pL : Nat → Nat) (pG : Nat → Nat) (pB : Nat → Bool) (pk : Nat → Int32) (pa : Nat → Nat) (pt : Nat → Nat) (pm : Nat) (ln : Nat) (hd : 2 ≤ nr ∧ nr ≤ 3 ∧ 2 ≤ nc ∧ nc ≤ 3) (hl0 : ln < 1000) : MM l G yX2_sizeOf cX2_sizeOf 2 (some .int) ⟨0, 0, 0, 0⟩ [.ref ph, .int (nI ln)] (PW G ph pd nr nc pL pG pB pk pa pt pm) (Qi_ G (fun (r : Int32) (_ : Unit) => r = nI (szOf nr nc ln)) (fun (_ : Unit) => (PW G ph pd nr nc pL pG pB pk pa pt pm))) := by
  refine MM.of (by decide) (Nat.le_of_ble_eq_true rfl) ?_
  intro p e s m args below meth cd A C hini hA hK hZ hP hD ls hl
  generalize hQ : MQ below ((Qi_ G (fun (r : Int32) (_ : Unit) => r = nI (szOf nr nc ln)) (fun (_ : Unit) => (PW G ph pd nr nc pL pG pB pk pa pt pm))) A) args s (⟨0, 0, 0, 0⟩ : Room).cells (⟨0, 0, 0, 0⟩ : Room).slots A = Q
  obtain ⟨hx, hb, hr, hts, hown, hlk, hml⟩ := C
  have hown : s.vm.findClass RX2 = some m.cls := hown
  have hS : va_S A s.heap s.heap [] := va_S.rf
  have hl : lv_has ls 2 [(0, .ref ph), (1, .int (nI ln))] := hl
  have hmu := dm_mul hd
  refine lv_iload_n hx hb dX2_sizeOf_0 rfl (lv_at hl 1 rfl) ?_
  refine lv_aload_n hx hb dX2_sizeOf_1 rfl (lv_at hl 0 rfl) ?_
  refine va_get (D := G.1) (ci := 1) (v := .int (nI nr)) (C := RX2) (T := TX2) (N := 14) hx hb hts in_X2 hown hK hP 0 rfl rfl 0 (by decide) (hts _ q141) (fun _ h9 => h9) rfl dX2_sizeOf_2 ?_
  refine n_cmp_ge (tgt := 15) hx hb dX2_sizeOf_5 (by decide) (by omega) (by omega) (fun c5 => ?_) (fun c5 => ?_)
  · skip
    refine lv_aload_n hx hb dX2_sizeOf_15 rfl (lv_at hl 0 rfl) ?_
    refine va_get (D := G.1) (ci := 1) (v := .int (nI nr)) (C := RX2) (T := TX2) (N := 14) hx hb hts in_X2 hown hK hP 0 rfl rfl 0 (by decide) (hts _ q141) (fun _ h9 => h9) rfl dX2_sizeOf_16 ?_
    subst hQ
    exact ret_i hx hb hr hlk () (by rw [szOf, if_neg (by omega)]) hP hD hS rfl dX2_sizeOf_19
  · skip
    refine lv_aload_n hx hb dX2_sizeOf_8 rfl (lv_at hl 0 rfl) ?_
    refine va_get (D := G.1) (ci := 1) (v := .int (nI nc)) (C := RX2) (T := TX2) (N := 14) hx hb hts in_X2 hown hK hP 0 rfl rfl 1 (by decide) (hts _ q143) (fun _ h9 => h9) rfl dX2_sizeOf_9 ?_
    refine lv_goto (tgt := 19) hx hb dX2_sizeOf_12 (by decide) ?_
    subst hQ
    exact ret_i hx hb hr hlk () (by rw [szOf, if_pos (by omega)]) hP hD hS rfl dX2_sizeOf_19
set_option maxHeartbeats 4000000 in
set_option maxRecDepth 100000 in
theorem m_X2_placeOn (l : Launch) (G : GG) (ph : Nat) (pd : Nat → Nat) (nr : Nat) (nc : Nat) (pL : Nat → Nat) (pG : Nat → Nat) (pB : Nat → Bool) (pk : Nat → Int32) (pa : Nat → Nat) (pt : Nat → Nat) (pm : Nat) (ln : Nat) (kk : Nat) (hd : 2 ≤ nr ∧ nr ≤ 3 ∧ 2 ≤ nc ∧ nc ≤ 3) (hl0 : ln < 1000) : MM l G yX2_placeOn cX2_placeOn 3 (some .int) ⟨0, 0, 0, 0⟩ [.ref ph, .int (nI ln), .int (nI kk)] (PW G ph pd nr nc pL pG pB pk pa pt pm) (Qi_ G (fun (r : Int32) (_ : Unit) => r = nI (plOn nr nc ln kk)) (fun (_ : Unit) => (PW G ph pd nr nc pL pG pB pk pa pt pm))) := by
  refine MM.of (by decide) (Nat.le_of_ble_eq_true rfl) ?_
  intro p e s m args below meth cd A C hini hA hK hZ hP hD ls hl
  generalize hQ : MQ below ((Qi_ G (fun (r : Int32) (_ : Unit) => r = nI (plOn nr nc ln kk)) (fun (_ : Unit) => (PW G ph pd nr nc pL pG pB pk pa pt pm))) A) args s (⟨0, 0, 0, 0⟩ : Room).cells (⟨0, 0, 0, 0⟩ : Room).slots A = Q
  obtain ⟨hx, hb, hr, hts, hown, hlk, hml⟩ := C
  have hown : s.vm.findClass RX2 = some m.cls := hown
  have hS : va_S A s.heap s.heap [] := va_S.rf
  have hl : lv_has ls 3 [(0, .ref ph), (1, .int (nI ln)), (2, .int (nI kk))] := hl
  have hmu := dm_mul hd
  refine lv_iload_n hx hb dX2_placeOn_0 rfl (lv_at hl 1 rfl) ?_
  refine lv_aload_n hx hb dX2_placeOn_1 rfl (lv_at hl 0 rfl) ?_
  refine va_get (D := G.1) (ci := 1) (v := .int (nI nr)) (C := RX2) (T := TX2) (N := 14) hx hb hts in_X2 hown hK hP 0 rfl rfl 0 (by decide) (hts _ q141) (fun _ h9 => h9) rfl dX2_placeOn_2 ?_
  refine n_cmp_ge (tgt := 19) hx hb dX2_placeOn_5 (by decide) (by omega) (by omega) (fun c5 => ?_) (fun c5 => ?_)
  · skip
    refine lv_iload_n hx hb dX2_placeOn_19 rfl (lv_at hl 2 rfl) ?_
    refine lv_aload_n hx hb dX2_placeOn_20 rfl (lv_at hl 0 rfl) ?_
    refine va_get (D := G.1) (ci := 1) (v := .int (nI nc)) (C := RX2) (T := TX2) (N := 14) hx hb hts in_X2 hown hK hP 0 rfl rfl 1 (by decide) (hts _ q143) (fun _ h9 => h9) rfl dX2_placeOn_21 ?_
    refine n_imul hx hb dX2_placeOn_24 ?_
    refine lv_iload_n hx hb dX2_placeOn_25 rfl (lv_at hl 1 rfl) ?_
    refine n_iadd hx hb dX2_placeOn_26 ?_
    refine lv_aload_n hx hb dX2_placeOn_27 rfl (lv_at hl 0 rfl) ?_
    refine va_get (D := G.1) (ci := 1) (v := .int (nI nr)) (C := RX2) (T := TX2) (N := 14) hx hb hts in_X2 hown hK hP 0 rfl rfl 0 (by decide) (hts _ q141) (fun _ h9 => h9) rfl dX2_placeOn_28 ?_
    refine n_isub hx hb (by omega) dX2_placeOn_31 ?_
    subst hQ
    exact ret_i hx hb hr hlk () (by rw [plOn, if_neg (by omega)]) hP hD hS rfl dX2_placeOn_32
  · skip
    refine lv_iload_n hx hb dX2_placeOn_8 rfl (lv_at hl 1 rfl) ?_
    refine lv_aload_n hx hb dX2_placeOn_9 rfl (lv_at hl 0 rfl) ?_
    refine va_get (D := G.1) (ci := 1) (v := .int (nI nc)) (C := RX2) (T := TX2) (N := 14) hx hb hts in_X2 hown hK hP 0 rfl rfl 1 (by decide) (hts _ q143) (fun _ h9 => h9) rfl dX2_placeOn_10 ?_
    refine n_imul hx hb dX2_placeOn_13 ?_
    refine lv_iload_n hx hb dX2_placeOn_14 rfl (lv_at hl 2 rfl) ?_
    refine n_iadd hx hb dX2_placeOn_15 ?_
    refine lv_goto (tgt := 32) hx hb dX2_placeOn_16 (by decide) ?_
    subst hQ
    exact ret_i hx hb hr hlk () (by rw [plOn, if_pos (by omega)]) hP hD hS rfl dX2_placeOn_32
set_option maxHeartbeats 4000000 in
set_option maxRecDepth 100000 in
theorem m_X2_rowOf (l : Launch) (G : GG) (ph : Nat) (pd : Nat → Nat) (nr : Nat) (nc : Nat) (pL : Nat → Nat) (pG : Nat → Nat) (pB : Nat → Bool) (pk : Nat → Int32) (pa : Nat → Nat) (pt : Nat → Nat) (pm : Nat) (pp : Nat) (hd : 2 ≤ nr ∧ nr ≤ 3 ∧ 2 ≤ nc ∧ nc ≤ 3) (hp0 : pp < 1000) : MM l G yX2_rowOf cX2_rowOf 2 (some .int) ⟨0, 0, 0, 0⟩ [.ref ph, .int (nI pp)] (PW G ph pd nr nc pL pG pB pk pa pt pm) (Qi_ G (fun (r : Int32) (_ : Unit) => r = nI (pp / nc)) (fun (_ : Unit) => (PW G ph pd nr nc pL pG pB pk pa pt pm))) := by
  refine MM.of (by decide) (Nat.le_of_ble_eq_true rfl) ?_
  intro p e s m args below meth cd A C hini hA hK hZ hP hD ls hl
  generalize hQ : MQ below ((Qi_ G (fun (r : Int32) (_ : Unit) => r = nI (pp / nc)) (fun (_ : Unit) => (PW G ph pd nr nc pL pG pB pk pa pt pm))) A) args s (⟨0, 0, 0, 0⟩ : Room).cells (⟨0, 0, 0, 0⟩ : Room).slots A = Q
  obtain ⟨hx, hb, hr, hts, hown, hlk, hml⟩ := C
  have hown : s.vm.findClass RX2 = some m.cls := hown
  have hS : va_S A s.heap s.heap [] := va_S.rf
  have hl : lv_has ls 2 [(0, .ref ph), (1, .int (nI pp))] := hl
  have hmu := dm_mul hd
  refine lv_iload_n hx hb dX2_rowOf_0 rfl (lv_at hl 1 rfl) ?_
  refine lv_aload_n hx hb dX2_rowOf_1 rfl (lv_at hl 0 rfl) ?_
  refine va_get (D := G.1) (ci := 1) (v := .int (nI nc)) (C := RX2) (T := TX2) (N := 14) hx hb hts in_X2 hown hK hP 0 rfl rfl 1 (by decide) (hts _ q143) (fun _ h9 => h9) rfl dX2_rowOf_2 ?_
  refine n_idiv hx hb (by omega) (by omega) (by omega) dX2_rowOf_5 ?_
  subst hQ
  exact ret_i hx hb hr hlk () rfl hP hD hS rfl dX2_rowOf_6
set_option maxHeartbeats 4000000 in
set_option maxRecDepth 100000 in
theorem m_X2_columnOf (l : Launch) (G : GG) (ph : Nat) (pd : Nat → Nat) (nr : Nat) (nc : Nat) (pL : Nat → Nat) (pG : Nat → Nat) (pB : Nat → Bool) (pk : Nat → Int32) (pa : Nat → Nat) (pt : Nat → Nat) (pm : Nat) (pp : Nat) (hd : 2 ≤ nr ∧ nr ≤ 3 ∧ 2 ≤ nc ∧ nc ≤ 3) (hp0 : pp < 1000) : MM l G yX2_columnOf cX2_columnOf 2 (some .int) ⟨0, 0, 0, 0⟩ [.ref ph, .int (nI pp)] (PW G ph pd nr nc pL pG pB pk pa pt pm) (Qi_ G (fun (r : Int32) (_ : Unit) => r = nI (pp % nc)) (fun (_ : Unit) => (PW G ph pd nr nc pL pG pB pk pa pt pm))) := by
  refine MM.of (by decide) (Nat.le_of_ble_eq_true rfl) ?_
  intro p e s m args below meth cd A C hini hA hK hZ hP hD ls hl
  generalize hQ : MQ below ((Qi_ G (fun (r : Int32) (_ : Unit) => r = nI (pp % nc)) (fun (_ : Unit) => (PW G ph pd nr nc pL pG pB pk pa pt pm))) A) args s (⟨0, 0, 0, 0⟩ : Room).cells (⟨0, 0, 0, 0⟩ : Room).slots A = Q
  obtain ⟨hx, hb, hr, hts, hown, hlk, hml⟩ := C
  have hown : s.vm.findClass RX2 = some m.cls := hown
  have hS : va_S A s.heap s.heap [] := va_S.rf
  have hl : lv_has ls 2 [(0, .ref ph), (1, .int (nI pp))] := hl
  have hmu := dm_mul hd
  refine lv_iload_n hx hb dX2_columnOf_0 rfl (lv_at hl 1 rfl) ?_
  refine lv_aload_n hx hb dX2_columnOf_1 rfl (lv_at hl 0 rfl) ?_
  refine va_get (D := G.1) (ci := 1) (v := .int (nI nc)) (C := RX2) (T := TX2) (N := 14) hx hb hts in_X2 hown hK hP 0 rfl rfl 1 (by decide) (hts _ q143) (fun _ h9 => h9) rfl dX2_columnOf_2 ?_
  refine n_irem hx hb (by omega) (by omega) (by omega) dX2_columnOf_5 ?_
  subst hQ
  exact ret_i hx hb hr hlk () rfl hP hD hS rfl dX2_columnOf_6
set_option maxHeartbeats 4000000 in
set_option maxRecDepth 100000 in
theorem m_X2_isOn (l : Launch) (G : GG) (ph : Nat) (pd : Nat → Nat) (nr : Nat) (nc : Nat) (pL : Nat → Nat) (pG : Nat → Nat) (pB : Nat → Bool) (pk : Nat → Int32) (pa : Nat → Nat) (pt : Nat → Nat) (pm : Nat) (pp : Nat) (ln : Nat) (hd : 2 ≤ nr ∧ nr ≤ 3 ∧ 2 ≤ nc ∧ nc ≤ 3) (hp0 : pp < 1000) (hl0 : ln < 1000) : MM l G yX2_isOn cX2_isOn 3 (some .boolean) ⟨1, 0, 0, 21⟩ [.ref ph, .int (nI pp), .int (nI ln)] (PW G ph pd nr nc pL pG pB pk pa pt pm) (Qi_ G (fun (r : Int32) (_ : Unit) => r = bI (onL nr nc pp ln)) (fun (_ : Unit) => (PW G ph pd nr nc pL pG pB pk pa pt pm))) := by
  refine MM.of (by decide) (Nat.le_of_ble_eq_true rfl) ?_
  intro p e s m args below meth cd A C hini hA hK hZ hP hD ls hl
  generalize hQ : MQ below ((Qi_ G (fun (r : Int32) (_ : Unit) => r = bI (onL nr nc pp ln)) (fun (_ : Unit) => (PW G ph pd nr nc pL pG pB pk pa pt pm))) A) args s (⟨1, 0, 0, 21⟩ : Room).cells (⟨1, 0, 0, 21⟩ : Room).slots A = Q
  obtain ⟨hx, hb, hr, hts, hown, hlk, hml⟩ := C
  have hown : s.vm.findClass RX2 = some m.cls := hown
  have hS : va_S A s.heap s.heap [] := va_S.rf
  have hl : lv_has ls 3 [(0, .ref ph), (1, .int (nI pp)), (2, .int (nI ln))] := hl
  have hmu := dm_mul hd
  refine lv_iload_n hx hb dX2_isOn_0 rfl (lv_at hl 2 rfl) ?_
  refine lv_aload_n hx hb dX2_isOn_1 rfl (lv_at hl 0 rfl) ?_
  refine va_get (D := G.1) (ci := 1) (v := .int (nI nr)) (C := RX2) (T := TX2) (N := 14) hx hb hts in_X2 hown hK hP 0 rfl rfl 0 (by decide) (hts _ q141) (fun _ h9 => h9) rfl dX2_isOn_2 ?_
  refine n_cmp_ge (tgt := 25) hx hb dX2_isOn_5 (by decide) (by omega) (by omega) (fun c5 => ?_) (fun c5 => ?_)
  · skip
    refine lv_aload_n hx hb dX2_isOn_25 rfl (lv_at hl 0 rfl) ?_
    refine lv_iload_n hx hb dX2_isOn_26 rfl (lv_at hl 1 rfl) ?_
    refine callVi (As := [.int (nI pp)]) (rest := []) (wc := (PW G ph pd nr nc pL pG pB pk pa pt pm)) (wr := ([] : va_W)) ⟨hx, hb, hml, hown, hts⟩ (m_X2_columnOf l G ph pd nr nc pL pG pB pk pa pt pm pp (by first | assumption | omega) (by first | assumption | omega)) (cwV 1 hts (lw_V q1081 q1083 qs15 q89 q1084) rfl rfl rfl (by decide +kernel) ⟨Nat.le_of_ble_eq_true rfl, Nat.le_of_ble_eq_true rfl⟩) hK hZ hA hP hD hS [0, 1, 2, 3, 4, 5] [] rfl rfl (by decide) (by decide) (by decide) 0 1 rfl rfl rfl hl.1 (Nat.le_of_ble_eq_true rfl) ⟨Nat.le_of_ble_eq_true rfl, Nat.le_of_ble_eq_true rfl⟩ rfl dX2_isOn_27 (fun r9 u9 H locs hw9 hP hD hS => ?_)
    subst hw9
    have hP : va_P G.1 CL (PW G ph pd nr nc pL pG pB pk pa pt pm) _ := hP
    have hD : va_D A (PW G ph pd nr nc pL pG pB pk pa pt pm) := hD
    refine lv_iload_n hx hb dX2_isOn_30 rfl (lv_at hl 2 rfl) ?_
    refine lv_aload_n hx hb dX2_isOn_31 rfl (lv_at hl 0 rfl) ?_
    refine va_get (D := G.1) (ci := 1) (v := .int (nI nr)) (C := RX2) (T := TX2) (N := 14) hx hb hts in_X2 hown hK hP 0 rfl rfl 0 (by decide) (hts _ q141) (fun _ h9 => h9) rfl dX2_isOn_32 ?_
    refine n_isub hx hb (by omega) dX2_isOn_35 ?_
    have hq := Nat.mod_le pp nc
    refine n_cmp_ne (tgt := 43) hx hb dX2_isOn_36 (by decide) (by omega) (by omega) (fun c36 => ?_) (fun c36 => ?_)
    · skip
      refine lv_iconst (v := nI 0) hx hb dX2_isOn_43 (by decide) ?_
      subst hQ
      exact ret_i hx hb hr hlk () (bI_0 (by rw [onL, if_neg (by omega)]; exact decide_eq_false (by omega))) hP hD hS rfl dX2_isOn_44
    · skip
      refine lv_iconst (v := nI 1) hx hb dX2_isOn_39 (by decide) ?_
      refine lv_goto (tgt := 44) hx hb dX2_isOn_40 (by decide) ?_
      subst hQ
      exact ret_i hx hb hr hlk () (bI_1 (by rw [onL, if_neg (by omega)]; exact decide_eq_true (by omega))) hP hD hS rfl dX2_isOn_44
  · skip
    refine lv_aload_n hx hb dX2_isOn_8 rfl (lv_at hl 0 rfl) ?_
    refine lv_iload_n hx hb dX2_isOn_9 rfl (lv_at hl 1 rfl) ?_
    refine callVi (As := [.int (nI pp)]) (rest := []) (wc := (PW G ph pd nr nc pL pG pB pk pa pt pm)) (wr := ([] : va_W)) ⟨hx, hb, hml, hown, hts⟩ (m_X2_rowOf l G ph pd nr nc pL pG pB pk pa pt pm pp (by first | assumption | omega) (by first | assumption | omega)) (cwV 1 hts (lw_V q1077 q1079 qs14 q89 q1080) rfl rfl rfl (by decide +kernel) ⟨Nat.le_of_ble_eq_true rfl, Nat.le_of_ble_eq_true rfl⟩) hK hZ hA hP hD hS [0, 1, 2, 3, 4, 5] [] rfl rfl (by decide) (by decide) (by decide) 0 1 rfl rfl rfl hl.1 (Nat.le_of_ble_eq_true rfl) ⟨Nat.le_of_ble_eq_true rfl, Nat.le_of_ble_eq_true rfl⟩ rfl dX2_isOn_10 (fun r9 u9 H locs hw9 hP hD hS => ?_)
    subst hw9
    have hP : va_P G.1 CL (PW G ph pd nr nc pL pG pB pk pa pt pm) _ := hP
    have hD : va_D A (PW G ph pd nr nc pL pG pB pk pa pt pm) := hD
    refine lv_iload_n hx hb dX2_isOn_13 rfl (lv_at hl 2 rfl) ?_
    have hq := Nat.div_le_self pp nc
    refine n_cmp_ne (tgt := 21) hx hb dX2_isOn_14 (by decide) (by omega) (by omega) (fun c14 => ?_) (fun c14 => ?_)
    · skip
      refine lv_iconst (v := nI 0) hx hb dX2_isOn_21 (by decide) ?_
      refine lv_goto (tgt := 44) hx hb dX2_isOn_22 (by decide) ?_
      subst hQ
      exact ret_i hx hb hr hlk () (bI_0 (by rw [onL, if_pos (by omega)]; exact decide_eq_false (by omega))) hP hD hS rfl dX2_isOn_44
    · skip
      refine lv_iconst (v := nI 1) hx hb dX2_isOn_17 (by decide) ?_
      refine lv_goto (tgt := 44) hx hb dX2_isOn_18 (by decide) ?_
      subst hQ
      exact ret_i hx hb hr hlk () (bI_1 (by rw [onL, if_pos (by omega)]; exact decide_eq_true (by omega))) hP hD hS rfl dX2_isOn_44
set_option maxHeartbeats 4000000 in
set_option maxRecDepth 100000 in
theorem m_X2_back (l : Launch) (G : GG) (tt : Nat) (ht0 : tt < 1000) : MM l G yX2_back cX2_back 1 (some .int) ⟨0, 0, 0, 0⟩ [.int (nI tt)] ([] : va_W) (Qi_ G (fun (r : Int32) (_ : Unit) => r = nI (bk tt)) (fun (_ : Unit) => ([] : va_W))) := by
  refine MM.of (by decide) (Nat.le_of_ble_eq_true rfl) ?_
  intro p e s m args below meth cd A C hini hA hK hZ hP hD ls hl
  generalize hQ : MQ below ((Qi_ G (fun (r : Int32) (_ : Unit) => r = nI (bk tt)) (fun (_ : Unit) => ([] : va_W))) A) args s (⟨0, 0, 0, 0⟩ : Room).cells (⟨0, 0, 0, 0⟩ : Room).slots A = Q
  obtain ⟨hx, hb, hr, hts, hown, hlk, hml⟩ := C
  have hown : s.vm.findClass RX2 = some m.cls := hown
  have hS : va_S A s.heap s.heap [] := va_S.rf
  have hl : lv_has ls 1 [(0, .int (nI tt))] := hl
  refine lv_iload_n hx hb dX2_back_0 rfl (lv_at hl 0 rfl) ?_
  refine lv_iconst (v := nI 2) hx hb dX2_back_1 (by decide) ?_
  refine n_irem hx hb (by omega) (by omega) (by omega) dX2_back_2 ?_
  refine n_if_ne (tgt := 12) hx hb dX2_back_3 (by decide) (by omega) (fun c3 => ?_) (fun c3 => ?_)
  · skip
    refine lv_iload_n hx hb dX2_back_12 rfl (lv_at hl 0 rfl) ?_
    refine lv_iconst (v := nI 1) hx hb dX2_back_13 (by decide) ?_
    refine n_isub hx hb (by omega) dX2_back_14 ?_
    subst hQ
    exact ret_i hx hb hr hlk () (by rw [bk, if_neg (by omega)]) hP hD hS rfl dX2_back_15
  · skip
    refine lv_iload_n hx hb dX2_back_6 rfl (lv_at hl 0 rfl) ?_
    refine lv_iconst (v := nI 1) hx hb dX2_back_7 (by decide) ?_
    refine n_iadd hx hb dX2_back_8 ?_
    refine lv_goto (tgt := 15) hx hb dX2_back_9 (by decide) ?_
    subst hQ
    exact ret_i hx hb hr hlk () (by rw [bk, if_pos (by omega)]) hP hD hS rfl dX2_back_15
set_option maxHeartbeats 4000000 in
set_option maxRecDepth 100000 in
theorem m_X2_can (l : Launch) (G : GG) (ph : Nat) (pd : Nat → Nat) (nr : Nat) (nc : Nat) (pL : Nat → Nat) (pG : Nat → Nat) (pB : Nat → Bool) (pk : Nat → Int32) (pa : Nat → Nat) (pt : Nat → Nat) (pm : Nat) (tt : Nat) (hd : 2 ≤ nr ∧ nr ≤ 3 ∧ 2 ≤ nc ∧ nc ≤ 3) (ht0 : tt < 12) : MM l G yX2_can cX2_can 2 (some .boolean) ⟨0, 0, 0, 0⟩ [.ref ph, .int (nI tt)] (PW G ph pd nr nc pL pG pB pk pa pt pm) (Qi_ G (fun (r : Int32) (_ : Unit) => r = bI (!pB (tt / 2))) (fun (_ : Unit) => (PW G ph pd nr nc pL pG pB pk pa pt pm))) := by
  refine MM.of (by decide) (Nat.le_of_ble_eq_true rfl) ?_
  intro p e s m args below meth cd A C hini hA hK hZ hP hD ls hl
  generalize hQ : MQ below ((Qi_ G (fun (r : Int32) (_ : Unit) => r = bI (!pB (tt / 2))) (fun (_ : Unit) => (PW G ph pd nr nc pL pG pB pk pa pt pm))) A) args s (⟨0, 0, 0, 0⟩ : Room).cells (⟨0, 0, 0, 0⟩ : Room).slots A = Q
  obtain ⟨hx, hb, hr, hts, hown, hlk, hml⟩ := C
  have hown : s.vm.findClass RX2 = some m.cls := hown
  have hS : va_S A s.heap s.heap [] := va_S.rf
  have hl : lv_has ls 2 [(0, .ref ph), (1, .int (nI tt))] := hl
  have hmu := dm_mul hd
  refine lv_aload_n hx hb dX2_can_0 rfl (lv_at hl 0 rfl) ?_
  refine va_get (D := G.1) (ci := 1) (v := .ref (pd 2)) (C := RX2) (T := TX2) (N := 14) hx hb hts in_X2 hown hK hP 0 rfl rfl 4 (by decide) (hts _ q149) (fun _ h9 => h9) rfl dX2_can_1 ?_
  refine lv_iload_n hx hb dX2_can_4 rfl (lv_at hl 1 rfl) ?_
  refine lv_iconst (v := nI 2) hx hb dX2_can_5 (by decide) ?_
  refine n_idiv hx hb (by omega) (by omega) (by omega) dX2_can_6 ?_
  refine b_zald hx hb hK hP 3 0 rfl rfl (by omega) (by decide) dX2_can_7 ?_
  refine b_if_ne (tgt := 15) hx hb dX2_can_8 (by decide) (fun c8 => ?_) (fun c8 => ?_)
  · skip
    refine lv_iconst (v := nI 0) hx hb dX2_can_15 (by decide) ?_
    subst hQ
    exact ret_i hx hb hr hlk () (bI_0 (by rw [c8]; rfl)) hP hD hS rfl dX2_can_16
  · skip
    refine lv_iconst (v := nI 1) hx hb dX2_can_11 (by decide) ?_
    refine lv_goto (tgt := 16) hx hb dX2_can_12 (by decide) ?_
    subst hQ
    exact ret_i hx hb hr hlk () (bI_1 (by rw [c8]; rfl)) hP hD hS rfl dX2_can_16
set_option maxHeartbeats 4000000 in
set_option maxRecDepth 100000 in
theorem m_X2_fits (l : Launch) (G : GG) (fx : Nat) (fy : Nat) (hx0 : fx < 65536) (hy0 : fy < 65536) : MM l G yX2_fits cX2_fits 2 (some .boolean) ⟨0, 0, 0, 0⟩ [.int (nI fx), .int (nI fy)] ([] : va_W) (Qi_ G (fun (r : Int32) (_ : Unit) => r = bI (ft fx fy)) (fun (_ : Unit) => ([] : va_W))) := by
  refine MM.of (by decide) (Nat.le_of_ble_eq_true rfl) ?_
  intro p e s m args below meth cd A C hini hA hK hZ hP hD ls hl
  generalize hQ : MQ below ((Qi_ G (fun (r : Int32) (_ : Unit) => r = bI (ft fx fy)) (fun (_ : Unit) => ([] : va_W))) A) args s (⟨0, 0, 0, 0⟩ : Room).cells (⟨0, 0, 0, 0⟩ : Room).slots A = Q
  obtain ⟨hx, hb, hr, hts, hown, hlk, hml⟩ := C
  have hown : s.vm.findClass RX2 = some m.cls := hown
  have hS : va_S A s.heap s.heap [] := va_S.rf
  have hl : lv_has ls 2 [(0, .int (nI fx)), (1, .int (nI fy))] := hl
  refine lv_iload_n hx hb dX2_fits_0 rfl (lv_at hl 1 rfl) ?_
  refine lv_bipush (v := nI 46) hx hb dX2_fits_1 (by decide) ?_
  refine n_cmp_eq (tgt := 11) hx hb dX2_fits_3 (by decide) (by omega) (by omega) (fun c3 => ?_) (fun c3 => ?_)
  · skip
    refine lv_iconst (v := nI 1) hx hb dX2_fits_11 (by decide) ?_
    refine lv_goto (tgt := 16) hx hb dX2_fits_12 (by decide) ?_
    subst hQ
    exact ret_i hx hb hr hlk () (bI_d1 (by omega)) hP hD hS rfl dX2_fits_16
  · skip
    refine lv_iload_n hx hb dX2_fits_6 rfl (lv_at hl 1 rfl) ?_
    refine lv_iload_n hx hb dX2_fits_7 rfl (lv_at hl 0 rfl) ?_
    refine n_cmp_ne (tgt := 15) hx hb dX2_fits_8 (by decide) (by omega) (by omega) (fun c8 => ?_) (fun c8 => ?_)
    · skip
      refine lv_iconst (v := nI 0) hx hb dX2_fits_15 (by decide) ?_
      subst hQ
      exact ret_i hx hb hr hlk () (bI_d0 (by omega)) hP hD hS rfl dX2_fits_16
    · skip
      refine lv_iconst (v := nI 1) hx hb dX2_fits_11 (by decide) ?_
      refine lv_goto (tgt := 16) hx hb dX2_fits_12 (by decide) ?_
      subst hQ
      exact ret_i hx hb hr hlk () (bI_d1 (by omega)) hP hD hS rfl dX2_fits_16
set_option maxHeartbeats 4000000 in
set_option maxRecDepth 100000 in
theorem m_X2_isHome (l : Launch) (G : GG) (ph : Nat) (pd : Nat → Nat) (nr : Nat) (nc : Nat) (pL : Nat → Nat) (pG : Nat → Nat) (pB : Nat → Bool) (pk : Nat → Int32) (pa : Nat → Nat) (pt : Nat → Nat) (pm : Nat) (pp : Nat) (hd : 2 ≤ nr ∧ nr ≤ 3 ∧ 2 ≤ nc ∧ nc ≤ 3) (hp0 : pp < 9) (hL : ∀ i, pL i < 65536) (hG : ∀ i, pG i < 65536) : MM l G yX2_isHome cX2_isHome 2 (some .boolean) ⟨1, 0, 0, 21⟩ [.ref ph, .int (nI pp)] (PW G ph pd nr nc pL pG pB pk pa pt pm) (Qi_ G (fun (r : Int32) (_ : Unit) => r = bI (ft (pL pp) (pG pp))) (fun (_ : Unit) => (PW G ph pd nr nc pL pG pB pk pa pt pm))) := by
  refine MM.of (by decide) (Nat.le_of_ble_eq_true rfl) ?_
  intro p e s m args below meth cd A C hini hA hK hZ hP hD ls hl
  generalize hQ : MQ below ((Qi_ G (fun (r : Int32) (_ : Unit) => r = bI (ft (pL pp) (pG pp))) (fun (_ : Unit) => (PW G ph pd nr nc pL pG pB pk pa pt pm))) A) args s (⟨1, 0, 0, 21⟩ : Room).cells (⟨1, 0, 0, 21⟩ : Room).slots A = Q
  obtain ⟨hx, hb, hr, hts, hown, hlk, hml⟩ := C
  have hown : s.vm.findClass RX2 = some m.cls := hown
  have hS : va_S A s.heap s.heap [] := va_S.rf
  have hl : lv_has ls 2 [(0, .ref ph), (1, .int (nI pp))] := hl
  have hmu := dm_mul hd
  refine lv_aload_n hx hb dX2_isHome_0 rfl (lv_at hl 0 rfl) ?_
  refine va_get (D := G.1) (ci := 1) (v := .ref (pd 0)) (C := RX2) (T := TX2) (N := 14) hx hb hts in_X2 hown hK hP 0 rfl rfl 2 (by decide) (hts _ q145) (fun _ h9 => h9) rfl dX2_isHome_1 ?_
  refine lv_iload_n hx hb dX2_isHome_4 rfl (lv_at hl 1 rfl) ?_
  refine n_cald hx hb hK hP 1 2 rfl rfl (by omega) (by decide) dX2_isHome_5 ?_
  refine lv_aload_n hx hb dX2_isHome_6 rfl (lv_at hl 0 rfl) ?_
  refine va_get (D := G.1) (ci := 1) (v := .ref (pd 1)) (C := RX2) (T := TX2) (N := 14) hx hb hts in_X2 hown hK hP 0 rfl rfl 3 (by decide) (hts _ q147) (fun _ h9 => h9) rfl dX2_isHome_7 ?_
  refine lv_iload_n hx hb dX2_isHome_10 rfl (lv_at hl 1 rfl) ?_
  refine n_cald hx hb hK hP 2 2 rfl rfl (by omega) (by decide) dX2_isHome_11 ?_
  refine callSi (As := [.int (nI (pL pp)), .int (nI (pG pp))]) (rest := []) (wc := ([] : va_W)) (wr := (PW G ph pd nr nc pL pG pB pk pa pt pm)) ⟨hx, hb, hml, hown, hts⟩ (m_X2_fits l G (pL pp) (pG pp) (hL _) (hG _)) (va_cwS 2 hts (lw_S q517 q518 q89 q519) rfl rfl rfl (by decide +kernel) ⟨Nat.le_of_ble_eq_true rfl, Nat.le_of_ble_eq_true rfl⟩) hK hZ hA hP hD hS [] [0, 1, 2, 3, 4, 5] rfl rfl (by decide) (by decide) (by decide) rfl hl.1 (Nat.le_of_ble_eq_true rfl) ⟨Nat.le_of_ble_eq_true rfl, Nat.le_of_ble_eq_true rfl⟩ rfl dX2_isHome_12 (fun r9 u9 H locs hw9 hP hD hS => ?_)
  subst hw9
  have hP : va_P G.1 CL (PW G ph pd nr nc pL pG pB pk pa pt pm) _ := hP
  have hD : va_D A (PW G ph pd nr nc pL pG pB pk pa pt pm) := hD
  subst hQ
  exact ret_i hx hb hr hlk () rfl hP hD hS (bI_nar _) dX2_isHome_15
set_option maxHeartbeats 4000000 in
set_option maxRecDepth 100000 in
theorem m_X2_home (l : Launch) (G : GG) (ph : Nat) (pd : Nat → Nat) (nr : Nat) (nc : Nat) (pL : Nat → Nat) (pG : Nat → Nat) (pB : Nat → Bool) (pk : Nat → Int32) (pa : Nat → Nat) (pt : Nat → Nat) (pm : Nat) (hd : 2 ≤ nr ∧ nr ≤ 3 ∧ 2 ≤ nc ∧ nc ≤ 3) (hL : ∀ i, pL i < 65536) (hG : ∀ i, pG i < 65536) : MM l G yX2_home cX2_home 3 (some .int) ⟨2, 0, 0, 42⟩ [.ref ph] (PW G ph pd nr nc pL pG pB pk pa pt pm) (Qi_ G (fun (r : Int32) (_ : Unit) => r = nI (hm nr nc pL pG)) (fun (_ : Unit) => (PW G ph pd nr nc pL pG pB pk pa pt pm))) := by
  refine MM.of (by decide) (Nat.le_of_ble_eq_true rfl) ?_
  intro p e s m args below meth cd A C hini hA hK hZ hP hD ls hl
  generalize hQ : MQ below ((Qi_ G (fun (r : Int32) (_ : Unit) => r = nI (hm nr nc pL pG)) (fun (_ : Unit) => (PW G ph pd nr nc pL pG pB pk pa pt pm))) A) args s (⟨2, 0, 0, 42⟩ : Room).cells (⟨2, 0, 0, 42⟩ : Room).slots A = Q
  obtain ⟨hx, hb, hr, hts, hown, hlk, hml⟩ := C
  have hown : s.vm.findClass RX2 = some m.cls := hown
  have hS : va_S A s.heap s.heap [] := va_S.rf
  have hl : lv_has ls 3 [(0, .ref ph)] := hl
  have hmu := dm_mul hd
  refine lv_iconst (v := nI 0) hx hb dX2_home_0 (by decide) ?_
  refine lv_istore_n (lv' := [(1, .int (nI 0)), (0, .ref ph)]) hx hb dX2_home_1 rfl hl (by decide) rfl (fun ls hl => ?_)
  refine lv_iconst (v := nI 0) hx hb dX2_home_2 (by decide) ?_
  refine lv_istore_n (lv' := [(2, .int (nI 0)), (1, .int (nI 0)), (0, .ref ph)]) hx hb dX2_home_3 rfl hl (by decide) rfl (fun ls hl => ?_)
  have lp4 : ∀ (f : Nat) (i : Nat) (n : Nat), nr * nc - i < f → (i ≤ nr * nc) → (n = cn (fun k => ft (pL k) (pG k)) i) → ∀ (H : Heap) (locs : List Loc) (ls : Array Slot), va_P G.1 CL (PW G ph pd nr nc pL pG pB pk pa pt pm) H → va_D A (PW G ph pd nr nc pL pG pB pk pa pt pm) → va_S A s.heap H locs → lv_has ls 3 [(2, .int (nI i)), (1, .int (nI n)), (0, .ref ph)] → W p l e (⟨2, 0, 0, 42⟩ : Room) s m args below meth cd H locs 0 0 Q (F0 m 4 ls []) := by
    intro f
    induction f with
    | zero => intro i n hf; exact absurd hf (Nat.not_lt_zero _)
    | succ f ih4 =>
      intro i n hf hi hn H locs ls hP hD hS hl
      refine lv_iload_n hx hb dX2_home_4 rfl (lv_at hl 0 rfl) ?_
      refine lv_aload_n hx hb dX2_home_5 rfl (lv_at hl 2 rfl) ?_
      refine callVi (As := []) (rest := [.int (nI i)]) (wc := (PW G ph pd nr nc pL pG pB pk pa pt pm)) (wr := ([] : va_W)) ⟨hx, hb, hml, hown, hts⟩ (m_X2_places l G ph pd nr nc pL pG pB pk pa pt pm ) (cwV 0 hts (lw_V q474 q475 q476 q89 q477) rfl rfl rfl (by decide +kernel) ⟨Nat.le_of_ble_eq_true rfl, Nat.le_of_ble_eq_true rfl⟩) hK hZ hA hP hD hS [0, 1, 2, 3, 4, 5] [] rfl rfl (by decide) (by decide) (by decide) 0 1 rfl rfl rfl hl.1 (Nat.le_of_ble_eq_true rfl) ⟨Nat.le_of_ble_eq_true rfl, Nat.le_of_ble_eq_true rfl⟩ rfl dX2_home_6 (fun r9 u9 H locs hw9 hP hD hS => ?_)
      subst hw9
      have hP : va_P G.1 CL (PW G ph pd nr nc pL pG pB pk pa pt pm) _ := hP
      have hD : va_D A (PW G ph pd nr nc pL pG pB pk pa pt pm) := hD
      refine n_cmp_ge (tgt := 34) hx hb dX2_home_9 (by decide) (by omega) (by omega) (fun c9 => ?_) (fun c9 => ?_)
      · skip
        refine lv_iload_n hx hb dX2_home_34 rfl (lv_at hl 1 rfl) ?_
        subst hQ
        exact ret_i hx hb hr hlk () (by rw [hn, hm, show i = nr * nc by omega]) hP hD hS rfl dX2_home_35
      · skip
        refine lv_iload_n hx hb dX2_home_12 rfl (lv_at hl 1 rfl) ?_
        refine lv_aload_n hx hb dX2_home_13 rfl (lv_at hl 2 rfl) ?_
        refine lv_iload_n hx hb dX2_home_14 rfl (lv_at hl 0 rfl) ?_
        refine callVi (As := [.int (nI i)]) (rest := [.int (nI n)]) (wc := (PW G ph pd nr nc pL pG pB pk pa pt pm)) (wr := ([] : va_W)) ⟨hx, hb, hml, hown, hts⟩ (m_X2_isHome l G ph pd nr nc pL pG pB pk pa pt pm i (by first | assumption | omega) (by first | assumption | omega) (by first | assumption | omega) (by first | assumption | omega)) (cwV 1 hts (lw_V q513 q514 q515 q89 q516) rfl rfl rfl (by decide +kernel) ⟨Nat.le_of_ble_eq_true rfl, Nat.le_of_ble_eq_true rfl⟩) hK hZ hA hP hD hS [0, 1, 2, 3, 4, 5] [] rfl rfl (by decide) (by decide) (by decide) 0 1 rfl rfl rfl hl.1 (Nat.le_of_ble_eq_true rfl) ⟨Nat.le_of_ble_eq_true rfl, Nat.le_of_ble_eq_true rfl⟩ rfl dX2_home_15 (fun r9 u9 H locs hw9 hP hD hS => ?_)
        subst hw9
        have hP : va_P G.1 CL (PW G ph pd nr nc pL pG pB pk pa pt pm) _ := hP
        have hD : va_D A (PW G ph pd nr nc pL pG pB pk pa pt pm) := hD
        refine b_if_eq (tgt := 25) hx hb dX2_home_18 (by decide) (fun c18 => ?_) (fun c18 => ?_)
        · skip
          refine lv_iconst (v := nI 0) hx hb dX2_home_25 (by decide) ?_
          refine n_iadd hx hb dX2_home_26 ?_
          refine lv_istore_n (lv' := [(1, .int (nI (n + 0))), (2, .int (nI i)), (0, .ref ph)]) hx hb dX2_home_27 rfl hl (by decide) rfl (fun ls hl => ?_)
          refine lv_iinc (v := nI (i + 1)) (lv' := [(2, .int (nI (i + 1))), (1, .int (nI (n + 0))), (0, .ref ph)]) hx hb dX2_home_28 hl (k := 1) rfl (nI_add _ _) (by decide) rfl (fun ls hl => ?_)
          refine lv_goto (tgt := 4) hx hb dX2_home_31 (by decide) ?_
          exact ih4 (i + 1) (n + 0) (by omega) (by omega) (hn ▸ cn_f c18) _ _ _ hP hD hS (lv_sub hl [0, 1, 2] rfl)
        · skip
          refine lv_iconst (v := nI 1) hx hb dX2_home_21 (by decide) ?_
          refine lv_goto (tgt := 26) hx hb dX2_home_22 (by decide) ?_
          refine n_iadd hx hb dX2_home_26 ?_
          refine lv_istore_n (lv' := [(1, .int (nI (n + 1))), (2, .int (nI i)), (0, .ref ph)]) hx hb dX2_home_27 rfl hl (by decide) rfl (fun ls hl => ?_)
          refine lv_iinc (v := nI (i + 1)) (lv' := [(2, .int (nI (i + 1))), (1, .int (nI (n + 1))), (0, .ref ph)]) hx hb dX2_home_28 hl (k := 1) rfl (nI_add _ _) (by decide) rfl (fun ls hl => ?_)
          refine lv_goto (tgt := 4) hx hb dX2_home_31 (by decide) ?_
          exact ih4 (i + 1) (n + 1) (by omega) (by omega) (hn ▸ cn_t c18) _ _ _ hP hD hS (lv_sub hl [0, 1, 2] rfl)
  exact lp4 _ 0 0 (Nat.lt_succ_self _) (by omega) rfl _ _ _ hP hD hS (lv_sub hl [0, 1, 2] rfl)
