theorem awN_0 {f : Nat → Bool} (h : f 0 = true) : awN f = 0 := by simp [awN, h]
theorem awN_1 {f : Nat → Bool} (h0 : f 0 = false) (h : f 1 = true) : awN f = 1 := by simp [awN, h0, h]
theorem awN_2 {f : Nat → Bool} (h0 : f 0 = false) (h1 : f 1 = false) (h : f 2 = true) : awN f = 2 := by simp [awN, h0, h1, h]
theorem awN_3 {f : Nat → Bool} (h0 : f 0 = false) (h1 : f 1 = false) (h2 : f 2 = false) (h : f 3 = true) : awN f = 3 := by simp [awN, h0, h1, h2, h]
theorem awN_4 {f : Nat → Bool} (h0 : f 0 = false) (h1 : f 1 = false) (h2 : f 2 = false) (h : f 3 = false) : awN f = 4 := by simp [awN, h0, h1, h2, h]
/-- boards that are gone through, with how many turns -/
def dfN (nr nc : Nat) (B : Nat → Bool) : Nat → Nat → (Nat → Nat) → List ((Nat → Nat) × Nat)
  | 0, many, L => [(L, many)]
  | d + 1, many, L => (L, many) :: (List.range (2 * (nr + nc))).flatMap (fun t => if B (t / 2) = true then [] else dfN nr nc B d (many + 1) (tn nr nc t L))
/-- the list of boards as the arrays hold it -/
def HoldA (xs : List ((Nat → Nat) × Nat)) (a t : Nat → Nat) (n : Nat) : Prop := n = xs.length ∧ (∀ i e, xs[i]? = some e → t i = e.2 ∧ ∀ k, k < 9 → a (9 * i + k) = e.1 k) ∧ (∀ i, a i < 65536) ∧ ∀ i, t i < 100
theorem HoldA.nil {a t : Nat → Nat} (ha : ∀ i, a i < 65536) (ht : ∀ i, t i < 100) : HoldA [] a t 0 := ⟨rfl, fun i e h => by simp at h, ha, ht⟩
theorem HoldA.push {xs : List ((Nat → Nat) × Nat)} {a t : Nat → Nat} {n : Nat} (h : HoldA xs a t n) {L : Nat → Nat} {mm : Nat} (hL : ∀ i, L i < 65536) (hm : mm < 100) : HoldA (xs ++ [(L, mm)]) (va_cpy L a 0 (9 * n) 9) (va_up t n mm) (n + 1) := by
  obtain ⟨h1, h2, h3, h4⟩ := h
  refine ⟨by simp [h1], fun i e he => ?_, fun i => ?_, up_lt h4 hm⟩
  · by_cases hi : i < xs.length
    · rw [List.getElem?_append_left hi] at he
      obtain ⟨g1, g2⟩ := h2 i e he
      refine ⟨?_, fun k hk => ?_⟩
      · unfold va_up; rw [if_neg (by omega)]; exact g1
      · unfold va_cpy; rw [if_neg (by omega)]; exact g2 k hk
    · rw [List.getElem?_append_right (by omega)] at he
      have hz : i - xs.length < 1 := (List.getElem?_eq_some_iff.mp he).1
      have hi2 : i = n := by omega
      subst hi2
      rw [h1, Nat.sub_self] at he
      cases he
      refine ⟨by simp [va_up], fun k hk => ?_⟩
      unfold va_cpy; rw [if_pos (by omega)]
      show L (0 + (9 * i + k - 9 * i)) = L k
      congr 1; omega
  · unfold va_cpy; split
    · exact hL _
    · exact h3 i
theorem dfN_len (nr nc : Nat) (B : Nat → Bool) (hd : nr + nc ≤ 6) : ∀ (d many : Nat) (L : Nat → Nat), d ≤ 2 → (dfN nr nc B d many L).length ≤ (if d = 0 then 1 else if d = 1 then 13 else 157)
  | 0, _, _, _ => by simp [dfN]
  | d + 1, many, L, h => by
    have key : ∀ (b : Nat), (∀ t, (if B (t / 2) = true then [] else dfN nr nc B d (many + 1) (tn nr nc t L)).length ≤ b) → ∀ n, ((List.range n).flatMap (fun t => if B (t / 2) = true then [] else dfN nr nc B d (many + 1) (tn nr nc t L))).length ≤ n * b := by
      intro b hb n
      induction n with
      | zero => simp
      | succ n ih => rw [List.range_succ, List.flatMap_append, List.length_append, Nat.add_mul, Nat.one_mul]; have := hb n; simp only [List.flatMap_cons, List.flatMap_nil, List.append_nil]; omega
    have h1 := key (if d = 0 then 1 else if d = 1 then 13 else 157) (fun t => by
      by_cases hB : B (t / 2) = true
      · rw [if_pos hB]; simp
      · rw [if_neg hB]; exact dfN_len nr nc B hd d (many + 1) _ (by omega)) (2 * (nr + nc))
    rcases (show d = 0 ∨ d = 1 by omega) with rfl | rfl
    · simp only [dfN, List.length_cons] at h1 ⊢; simp at h1 ⊢; omega
    · simp only [dfN, List.length_cons] at h1 ⊢; simp at h1 ⊢; omega
/-- the boards behind the first t turns of a board's -/
def dfP (nr nc : Nat) (B : Nat → Bool) (d many : Nat) (L : Nat → Nat) (t : Nat) : List ((Nat → Nat) × Nat) := (L, many) :: (List.range t).flatMap (fun t => if B (t / 2) = true then [] else dfN nr nc B d (many + 1) (tn nr nc t L))
theorem dfP_0 (nr nc : Nat) (B : Nat → Bool) (d many : Nat) (L : Nat → Nat) : dfP nr nc B d many L 0 = [(L, many)] := rfl
theorem dfP_t {nr nc : Nat} {B : Nat → Bool} {d many : Nat} {L : Nat → Nat} {t : Nat} (h : B (t / 2) = true) : dfP nr nc B d many L (t + 1) = dfP nr nc B d many L t := by
  simp [dfP, List.range_succ, List.flatMap_append, h]
theorem dfP_f {nr nc : Nat} {B : Nat → Bool} {d many : Nat} {L : Nat → Nat} {t : Nat} (h : B (t / 2) = false) : dfP nr nc B d many L (t + 1) = dfP nr nc B d many L t ++ dfN nr nc B d (many + 1) (tn nr nc t L) := by
  simp [dfP, List.range_succ, List.flatMap_append, h]
theorem dfP_len {nr nc : Nat} {B : Nat → Bool} (hd : nr + nc ≤ 6) {d many : Nat} {L : Nat → Nat} (b : Nat) (hb : ∀ L', (dfN nr nc B d (many + 1) L').length ≤ b) : ∀ t, (dfP nr nc B d many L t).length ≤ 1 + t * b
  | 0 => by simp [dfP]
  | t + 1 => by
    have ih := dfP_len hd b hb t (L := L)
    cases h : B (t / 2) with
    | true => rw [dfP_t h, Nat.add_mul]; omega
    | false => rw [dfP_f h, List.length_append, Nat.add_mul, Nat.one_mul]; have := hb (tn nr nc t L); omega
/-- does a board meet the goal -/
def mtN (n : Nat) (F K : Nat → Nat) : Bool := al (fun k => ft (F k) (K k)) n
theorem al_f {P : Nat → Bool} : ∀ {n k : Nat}, k < n → P k = false → al P n = false
  | n + 1, k, hk, h => by
    simp only [al]
    by_cases hkn : k = n
    · subst hkn; rw [h, Bool.and_false]
    · rw [al_f (n := n) (k := k) (by omega) h, Bool.false_and]
theorem al_up {P : Nat → Bool} {k : Nat} (h : al P k = true) (h2 : P k = true) : al P (k + 1) = true := by rw [al, h, h2]; rfl
/-- the fewest turns among the first boards of the arrays, or 4 -/
def mnN (n : Nat) (K a t : Nat → Nat) : Nat → Nat
  | 0 => 4
  | i + 1 => if t i < mnN n K a t i ∧ mtN n (fun k => a (9 * i + k)) K = true then t i else mnN n K a t i
theorem mnN_le (n : Nat) (K a t : Nat → Nat) : ∀ i, mnN n K a t i ≤ 4
  | 0 => Nat.le_refl 4
  | i + 1 => by have := mnN_le n K a t i; simp only [mnN]; split <;> omega
/-- the same over the list -/
def mnL (n : Nat) (K : Nat → Nat) (xs : List ((Nat → Nat) × Nat)) : Nat := xs.foldl (fun b e => if e.2 < b ∧ mtN n e.1 K = true then e.2 else b) 4
theorem al_congr {P R : Nat → Bool} : ∀ {n : Nat}, (∀ k, k < n → P k = R k) → al P n = al R n
  | 0, _ => rfl
  | k + 1, h => by rw [al, al, al_congr (fun j hj => h j (by omega)), h k (by omega)]
theorem mnN_L {n : Nat} {K a t : Nat → Nat} {xs : List ((Nat → Nat) × Nat)} {m : Nat} (hn : n ≤ 9) (h : HoldA xs a t m) : mnN n K a t m = mnL n K xs := by
  obtain ⟨h1, h2, -, -⟩ := h
  have key : ∀ i, i ≤ xs.length → mnN n K a t i = mnL n K (xs.take i) := by
    intro i
    induction i with
    | zero => intro _; simp [mnN, mnL]
    | succ i ih =>
      intro hi
      have hlt : i < xs.length := by omega
      obtain ⟨g1, g2⟩ := h2 i xs[i] (by simp [hlt])
      have e1 : mtN n (fun k => a (9 * i + k)) K = mtN n (xs[i]).1 K := al_congr (fun k hk => by
        show ft (a (9 * i + k)) (K k) = ft (xs[i].1 k) (K k)
        rw [g2 k (by omega)])
      have e2 : xs.take (i + 1) = xs.take i ++ [xs[i]] := by first | exact (List.take_append_getElem hlt).symm | exact List.take_succ_eq_append_getElem hlt | (rw [List.take_add_one, List.getElem?_eq_getElem hlt]; rfl)
      rw [mnN, ih (by omega), e1, g1, e2, mnL, mnL, List.foldl_append]
      rfl
  have := key xs.length (Nat.le_refl _)
  rw [List.take_length] at this
  rw [h1]; exact this
/-- the way halfway: the fewest turns from the boards to the goals behind the first turns -/
def aw2 (nr nc : Nat) (B : Nat → Bool) (K : Nat → Nat) (xs : List ((Nat → Nat) × Nat)) : Nat → Nat
  | 0 => mnL (nr * nc) K xs
  | t + 1 => if B (t / 2) = true then aw2 nr nc B K xs t else min (aw2 nr nc B K xs t) (mnL (nr * nc) (tn nr nc (bk t) K) xs + 1)
theorem aw2_le (nr nc : Nat) (B : Nat → Bool) (K : Nat → Nat) {xs : List ((Nat → Nat) × Nat)} (hx : mnL (nr * nc) K xs ≤ 4) : ∀ t, aw2 nr nc B K xs t ≤ 4
  | 0 => hx
  | t + 1 => by have := aw2_le nr nc B K hx t; simp only [aw2]; split <;> omega
/-! cycles -/
def wkN (f : Nat → Nat) : Nat → (Nat → Bool) → Nat → Nat → (Nat → Bool) × Nat
  | 0, s, _, n => (s, n)
  | m + 1, s, a, n => if s a = true then (s, n) else wkN f m (va_up s a true) (f a) (n + 1)
def odS (f : Nat → Nat) : Nat → (Nat → Bool) × Bool
  | 0 => (fun _ => false, false)
  | k + 1 => ((wkN f 10 (odS f k).1 k 0).1, (odS f k).2 ^^ (decide (0 < (wkN f 10 (odS f k).1 k 0).2) && decide ((wkN f 10 (odS f k).1 k 0).2 % 2 = 0)))
def odN (f : Nat → Nat) (n : Nat) : Bool := (odS f n).2
theorem cn_up_f {P : Nat → Bool} {a : Nat} : ∀ {n : Nat}, a < n → P a = true → cn (va_up P a false) n + 1 = cn P n
  | n + 1, h, hp => by
    simp only [cn]
    by_cases ha : a = n
    · subst ha
      have e : cn (va_up P a false) a = cn P a := cn_congr (fun k hk => by simp [va_up, show k ≠ a by omega])
      rw [e, hp]; simp [va_up]
    · have := cn_up_f (P := P) (a := a) (n := n) (by omega) hp
      have e : va_up P a false n = P n := by simp [va_up, show n ≠ a by omega]
      rw [e]; omega
def otN (nr nc : Nat) (L K : Nat → Nat) : Bool := lk L K (nr * nc) || (decide (nr = 3) && decide (nc = 3) && pry L K (nr * nc) 1 && odN (hoN (nr * nc) L K) (nr * nc))
set_option maxHeartbeats 4000000 in
set_option maxRecDepth 100000 in
theorem m_X2_isIn__0 (l : Launch) (G : GG) (ph : Nat) (pd : Nat → Nat) (nr : Nat) (nc : Nat) (pL : Nat → Nat) (pG : Nat → Nat) (pB : Nat → Bool) (pk : Nat → Int32) (pa : Nat → Nat) (pt : Nat → Nat) (pm : Nat) (hd : 2 ≤ nr ∧ nr ≤ 3 ∧ 2 ≤ nc ∧ nc ≤ 3) (hL : ∀ i, pL i < 65536) (hG : ∀ i, pG i < 65536) : MM l G yX2_isIn cX2_isIn 4 (some .boolean) ⟨4, 0, 0, 84⟩ [.ref ph, .int (nI 0)] (PW G ph pd nr nc pL pG pB pk pa pt pm) (Qi_ G (fun (r : Int32) (_ : Unit) => r = bI (rch nr nc pB pG 0 pL)) (fun (_ : Unit) => (PW G ph pd nr nc pL pG pB pk pa pt pm))) := by
  refine MM.of (by decide) (Nat.le_of_ble_eq_true rfl) ?_
  intro p e s m args below meth cd A C hini hA hK hZ hP hD ls hl
  generalize hQ : MQ below ((Qi_ G (fun (r : Int32) (_ : Unit) => r = bI (rch nr nc pB pG 0 pL)) (fun (_ : Unit) => (PW G ph pd nr nc pL pG pB pk pa pt pm))) A) args s (⟨4, 0, 0, 84⟩ : Room).cells (⟨4, 0, 0, 84⟩ : Room).slots A = Q
  obtain ⟨hx, hb, hr, hts, hown, hlk, hml⟩ := C
  have hown : s.vm.findClass RX2 = some m.cls := hown
  have hS : va_S A s.heap s.heap [] := va_S.rf
  have hl : lv_has ls 4 [(0, .ref ph), (1, .int (nI 0))] := hl
  have hmu := dm_mul hd
  refine lv_iload_n hx hb dX2_isIn_0 rfl (lv_at hl 1 rfl) ?_
  refine n_if_ne (tgt := 9) hx hb dX2_isIn_1 (by decide) (by decide) (fun c1 => ?_) (fun c1 => ?_)
  · exact absurd c1 (by decide)
  refine lv_aload_n hx hb dX2_isIn_4 rfl (lv_at hl 0 rfl) ?_
  refine callVi (As := []) (rest := []) (wc := (PW G ph pd nr nc pL pG pB pk pa pt pm)) (wr := ([] : va_W)) ⟨hx, hb, hml, hown, hts⟩ (m_X2_isReached l G ph pd nr nc pL pG pB pk pa pt pm (by first | assumption | omega) (by first | assumption | omega) (by first | assumption | omega)) (cwV 0 hts (lw_V q1055 q1056 q1057 q89 q1058) rfl rfl rfl (by decide +kernel) ⟨Nat.le_of_ble_eq_true rfl, Nat.le_of_ble_eq_true rfl⟩) hK hZ hA hP hD hS [0, 1, 2, 3, 4, 5] [] rfl rfl (by decide) (by decide) (by decide) 0 1 rfl rfl rfl hl.1 (Nat.le_of_ble_eq_true rfl) ⟨Nat.le_of_ble_eq_true rfl, Nat.le_of_ble_eq_true rfl⟩ rfl dX2_isIn_5 (fun r9 u9 H locs hw9 hP hD hS => ?_)
  subst hw9
  have hP : va_P G.1 CL (PW G ph pd nr nc pL pG pB pk pa pt pm) _ := hP
  have hD : va_D A (PW G ph pd nr nc pL pG pB pk pa pt pm) := hD
  subst hQ
  exact ret_i hx hb hr hlk () rfl hP hD hS (bI_nar _) dX2_isIn_8
set_option maxHeartbeats 4000000 in
set_option maxRecDepth 100000 in
theorem m_X2_isIn__1 (l : Launch) (G : GG) (ph : Nat) (pd : Nat → Nat) (nr : Nat) (nc : Nat) (pL : Nat → Nat) (pG : Nat → Nat) (pB : Nat → Bool) (pk : Nat → Int32) (pa : Nat → Nat) (pt : Nat → Nat) (pm : Nat) (hd : 2 ≤ nr ∧ nr ≤ 3 ∧ 2 ≤ nc ∧ nc ≤ 3) (hL : ∀ i, pL i < 65536) (hG : ∀ i, pG i < 65536) : MM l G yX2_isIn cX2_isIn 4 (some .boolean) ⟨5, 0, 0, 107⟩ [.ref ph, .int (nI 1)] (PW G ph pd nr nc pL pG pB pk pa pt pm) (Qi_ G (fun (r : Int32) (_ : Unit) => r = bI (rch nr nc pB pG 1 pL)) (fun (_ : Unit) => (PW G ph pd nr nc pL pG pB pk pa pt pm))) := by
  refine MM.of (by decide) (Nat.le_of_ble_eq_true rfl) ?_
  intro p e s m args below meth cd A C hini hA hK hZ hP hD ls hl
  generalize hQ : MQ below ((Qi_ G (fun (r : Int32) (_ : Unit) => r = bI (rch nr nc pB pG 1 pL)) (fun (_ : Unit) => (PW G ph pd nr nc pL pG pB pk pa pt pm))) A) args s (⟨5, 0, 0, 107⟩ : Room).cells (⟨5, 0, 0, 107⟩ : Room).slots A = Q
  obtain ⟨hx, hb, hr, hts, hown, hlk, hml⟩ := C
  have hown : s.vm.findClass RX2 = some m.cls := hown
  have hS : va_S A s.heap s.heap [] := va_S.rf
  have hl : lv_has ls 4 [(0, .ref ph), (1, .int (nI 1))] := hl
  have hmu := dm_mul hd
  refine lv_iload_n hx hb dX2_isIn_0 rfl (lv_at hl 1 rfl) ?_
  refine n_if_ne (tgt := 9) hx hb dX2_isIn_1 (by decide) (by decide) (fun c1 => ?_) (fun c1 => ?_)
  rotate_left
  · exact absurd c1 (by decide)
  refine lv_iconst (v := nI 0) hx hb dX2_isIn_9 (by decide) ?_
  refine lv_istore_n (lv' := [(2, .int (nI 0)), (0, .ref ph), (1, .int (nI 1))]) hx hb dX2_isIn_10 rfl hl (by decide) rfl (fun ls hl => ?_)
  refine lv_iconst (v := nI 0) hx hb dX2_isIn_11 (by decide) ?_
  refine lv_istore_n (lv' := [(3, .int (nI 0)), (2, .int (nI 0)), (0, .ref ph), (1, .int (nI 1))]) hx hb dX2_isIn_12 rfl hl (by decide) rfl (fun ls hl => ?_)
  have lp13 : ∀ (f : Nat) (t : Nat) (bb : Bool), 2 * (nr + nc) - t < f → (t ≤ 2 * (nr + nc)) → (bb = ay (fun t => !pB (t / 2) && rch nr nc pB pG 0 (tn nr nc t pL)) t) → ∀ (H : Heap) (locs : List Loc) (ls : Array Slot), va_P G.1 CL (PW G ph pd nr nc pL pG pB pk pa pt pm) H → va_D A (PW G ph pd nr nc pL pG pB pk pa pt pm) → va_S A s.heap H locs → lv_has ls 4 [(3, .int (nI t)), (2, .int (bI bb)), (0, .ref ph), (1, .int (nI 1))] → W p l e (⟨5, 0, 0, 107⟩ : Room) s m args below meth cd H locs 0 0 Q (F0 m 13 ls []) := by
    intro f
    induction f with
    | zero => intro t bb hf; exact absurd hf (Nat.not_lt_zero _)
    | succ f ih13 =>
      intro t bb hf ht hb0 H locs ls hP hD hS hl
      refine lv_iload_n hx hb dX2_isIn_13 rfl (lv_at hl 0 rfl) ?_
      refine lv_aload_n hx hb dX2_isIn_14 rfl (lv_at hl 2 rfl) ?_
      refine callVi (As := []) (rest := [.int (nI t)]) (wc := (PW G ph pd nr nc pL pG pB pk pa pt pm)) (wr := ([] : va_W)) ⟨hx, hb, hml, hown, hts⟩ (m_X2_turns l G ph pd nr nc pL pG pB pk pa pt pm ) (cwV 0 hts (lw_V q1022 q1023 q1024 q89 q1025) rfl rfl rfl (by decide +kernel) ⟨Nat.le_of_ble_eq_true rfl, Nat.le_of_ble_eq_true rfl⟩) hK hZ hA hP hD hS [0, 1, 2, 3, 4, 5] [] rfl rfl (by decide) (by decide) (by decide) 0 1 rfl rfl rfl hl.1 (Nat.le_of_ble_eq_true rfl) ⟨Nat.le_of_ble_eq_true rfl, Nat.le_of_ble_eq_true rfl⟩ rfl dX2_isIn_15 (fun r9 u9 H locs hw9 hP hD hS => ?_)
      subst hw9
      have hP : va_P G.1 CL (PW G ph pd nr nc pL pG pB pk pa pt pm) _ := hP
      have hD : va_D A (PW G ph pd nr nc pL pG pB pk pa pt pm) := hD
      refine n_cmp_ge (tgt := 68) hx hb dX2_isIn_18 (by decide) (by omega) (by omega) (fun c18 => ?_) (fun c18 => ?_)
      · skip
        refine lv_iload_n hx hb dX2_isIn_68 rfl (lv_at hl 1 rfl) ?_
        subst hQ
        exact ret_i hx hb hr hlk () (congrArg bI (by first | (rw [hb0, show t = 2 * (nr + nc) by omega]; rfl) | (rw [c22]; exact (ay_le (hb0 ▸ c22) ht).symm))) hP hD hS (bI_nar _) dX2_isIn_69
      · skip
        refine lv_iload_n hx hb dX2_isIn_21 rfl (lv_at hl 1 rfl) ?_
        refine b_if_ne (tgt := 68) hx hb dX2_isIn_22 (by decide) (fun c22 => ?_) (fun c22 => ?_)
        · skip
          refine lv_iload_n hx hb dX2_isIn_68 rfl (lv_at hl 1 rfl) ?_
          subst hQ
          exact ret_i hx hb hr hlk () (congrArg bI (by first | (rw [hb0, show t = 2 * (nr + nc) by omega]; rfl) | (rw [c22]; exact (ay_le (hb0 ▸ c22) ht).symm))) hP hD hS (bI_nar _) dX2_isIn_69
        · skip
          refine lv_aload_n hx hb dX2_isIn_25 rfl (lv_at hl 2 rfl) ?_
          refine lv_iload_n hx hb dX2_isIn_26 rfl (lv_at hl 0 rfl) ?_
          refine callVi (As := [.int (nI t)]) (rest := []) (wc := (PW G ph pd nr nc pL pG pB pk pa pt pm)) (wr := ([] : va_W)) ⟨hx, hb, hml, hown, hts⟩ (m_X2_can l G ph pd nr nc pL pG pB pk pa pt pm t (by first | assumption | omega) (by first | assumption | omega)) (cwV 1 hts (lw_V q1027 q1028 q1029 q89 q1030) rfl rfl rfl (by decide +kernel) ⟨Nat.le_of_ble_eq_true rfl, Nat.le_of_ble_eq_true rfl⟩) hK hZ hA hP hD hS [0, 1, 2, 3, 4, 5] [] rfl rfl (by decide) (by decide) (by decide) 0 1 rfl rfl rfl hl.1 (Nat.le_of_ble_eq_true rfl) ⟨Nat.le_of_ble_eq_true rfl, Nat.le_of_ble_eq_true rfl⟩ rfl dX2_isIn_27 (fun r9 u9 H locs hw9 hP hD hS => ?_)
          subst hw9
          have hP : va_P G.1 CL (PW G ph pd nr nc pL pG pB pk pa pt pm) _ := hP
          have hD : va_D A (PW G ph pd nr nc pL pG pB pk pa pt pm) := hD
          refine b_if_eq (tgt := 62) hx hb dX2_isIn_30 (by decide) (fun c30 => ?_) (fun c30 => ?_)
          · skip
            refine lv_iinc (v := nI (t + 1)) (lv' := [(3, .int (nI (t + 1))), (2, .int (bI bb)), (0, .ref ph), (1, .int (nI 1))]) hx hb dX2_isIn_62 hl (k := 0) rfl (nI_add _ _) (by decide) rfl (fun ls hl => ?_)
            refine lv_goto (tgt := 13) hx hb dX2_isIn_65 (by decide) ?_
            exact ih13 (t + 1) bb (by omega) (by omega) (by rw [ay, ← hb0, c22, c30]; rfl) _ _ _ hP hD hS (lv_sub hl [0, 1, 2, 3] rfl)
          · skip
            refine lv_aload_n hx hb dX2_isIn_33 rfl (lv_at hl 2 rfl) ?_
            refine lv_aload_n hx hb dX2_isIn_34 rfl (lv_at hl 2 rfl) ?_
            refine va_get (D := G.1) (ci := 1) (v := .ref (pd 0)) (C := RX2) (T := TX2) (N := 14) hx hb hts in_X2 hown hK hP 0 rfl rfl 2 (by decide) (hts _ q145) (fun _ h9 => h9) rfl dX2_isIn_35 ?_
            refine lv_iload_n hx hb dX2_isIn_38 rfl (lv_at hl 0 rfl) ?_
            refine callVv (As := [.ref (pd 0), .int (nI t)]) (rest := []) (wc := (PW G ph pd nr nc pL pG pB pk pa pt pm)) (wr := ([] : va_W)) ⟨hx, hb, hml, hown, hts⟩ (m_X2_turns_2__L l G ph pd nr nc pL pG pB pk pa pt pm t (by first | assumption | omega) (by first | assumption | omega) (by first | assumption | omega)) (cwV 2 hts (lw_V q1031 q1032 q1033 q89 q1034) rfl rfl rfl (by decide +kernel) ⟨Nat.le_of_ble_eq_true rfl, Nat.le_of_ble_eq_true rfl⟩) hK hZ hA hP hD hS [0, 1, 2, 3, 4, 5] [] rfl rfl (by decide) (by decide) (by decide) 0 1 rfl rfl rfl hl.1 (Nat.le_of_ble_eq_true rfl) ⟨Nat.le_of_ble_eq_true rfl, Nat.le_of_ble_eq_true rfl⟩ rfl dX2_isIn_39 (fun u9 H locs hw9 hP hD hS => ?_)
            have hP : va_P G.1 CL (PW G ph pd nr nc (tn nr nc t pL) pG pB pk pa pt pm) _ := hP
            have hD : va_D A (PW G ph pd nr nc (tn nr nc t pL) pG pB pk pa pt pm) := hD
            refine lv_aload_n hx hb dX2_isIn_42 rfl (lv_at hl 2 rfl) ?_
            refine lv_iload_n hx hb dX2_isIn_43 rfl (lv_at hl 3 rfl) ?_
            refine lv_iconst (v := nI 1) hx hb dX2_isIn_44 (by decide) ?_
            refine n_isub hx hb (by decide) dX2_isIn_45 ?_
            refine callVi (As := [.int (nI 0)]) (rest := []) (wc := (PW G ph pd nr nc (tn nr nc t pL) pG pB pk pa pt pm)) (wr := ([] : va_W)) ⟨hx, hb, hml, hown, hts⟩ (m_X2_isIn__0 l G ph pd nr nc (tn nr nc t pL) pG pB pk pa pt pm (by first | assumption | omega) (tn_lt hL) (by first | assumption | omega)) (cwV 1 hts (lw_V q1051 q1053 qs12 q89 q1054) rfl rfl rfl (by decide +kernel) ⟨Nat.le_of_ble_eq_true rfl, Nat.le_of_ble_eq_true rfl⟩) hK hZ hA hP hD hS [0, 1, 2, 3, 4, 5] [] rfl rfl (by decide) (by decide) (by decide) 0 1 rfl rfl rfl hl.1 (Nat.le_of_ble_eq_true rfl) ⟨Nat.le_of_ble_eq_true rfl, Nat.le_of_ble_eq_true rfl⟩ rfl dX2_isIn_46 (fun r9 u9 H locs hw9 hP hD hS => ?_)
            subst hw9
            have hP : va_P G.1 CL (PW G ph pd nr nc (tn nr nc t pL) pG pB pk pa pt pm) _ := hP
            have hD : va_D A (PW G ph pd nr nc (tn nr nc t pL) pG pB pk pa pt pm) := hD
            refine lv_istore_n (lv' := [(2, .int (bI (rch nr nc pB pG 0 (tn nr nc t pL)))), (3, .int (nI t)), (0, .ref ph), (1, .int (nI 1))]) hx hb dX2_isIn_49 rfl hl (by decide) rfl (fun ls hl => ?_)
            refine lv_aload_n hx hb dX2_isIn_50 rfl (lv_at hl 2 rfl) ?_
            refine lv_aload_n hx hb dX2_isIn_51 rfl (lv_at hl 2 rfl) ?_
            refine va_get (D := G.1) (ci := 1) (v := .ref (pd 0)) (C := RX2) (T := TX2) (N := 14) hx hb hts in_X2 hown hK hP 0 rfl rfl 2 (by decide) (hts _ q145) (fun _ h9 => h9) rfl dX2_isIn_52 ?_
            refine lv_iload_n hx hb dX2_isIn_55 rfl (lv_at hl 1 rfl) ?_
            refine callSi (As := [.int (nI t)]) (rest := [.ref (pd 0), .ref ph]) (wc := ([] : va_W)) (wr := (PW G ph pd nr nc (tn nr nc t pL) pG pB pk pa pt pm)) ⟨hx, hb, hml, hown, hts⟩ (m_X2_back l G t (by first | assumption | omega)) (va_cwS 1 hts (lw_S q1035 q1036 q89 q1037) rfl rfl rfl (by decide +kernel) ⟨Nat.le_of_ble_eq_true rfl, Nat.le_of_ble_eq_true rfl⟩) hK hZ hA hP hD hS [] [0, 1, 2, 3, 4, 5] rfl rfl (by decide) (by decide) (by decide) rfl hl.1 (Nat.le_of_ble_eq_true rfl) ⟨Nat.le_of_ble_eq_true rfl, Nat.le_of_ble_eq_true rfl⟩ rfl dX2_isIn_56 (fun r9 u9 H locs hw9 hP hD hS => ?_)
            subst hw9
            have hP : va_P G.1 CL (PW G ph pd nr nc (tn nr nc t pL) pG pB pk pa pt pm) _ := hP
            have hD : va_D A (PW G ph pd nr nc (tn nr nc t pL) pG pB pk pa pt pm) := hD
            refine callVv (As := [.ref (pd 0), .int (nI (bk t))]) (rest := []) (wc := (PW G ph pd nr nc (tn nr nc t pL) pG pB pk pa pt pm)) (wr := ([] : va_W)) ⟨hx, hb, hml, hown, hts⟩ (m_X2_turns_2__L l G ph pd nr nc (tn nr nc t pL) pG pB pk pa pt pm (bk t) (by first | assumption | omega) (bk_lt hd (by omega)).1 (tn_lt hL)) (cwV 2 hts (lw_V q1031 q1032 q1033 q89 q1034) rfl rfl rfl (by decide +kernel) ⟨Nat.le_of_ble_eq_true rfl, Nat.le_of_ble_eq_true rfl⟩) hK hZ hA hP hD hS [0, 1, 2, 3, 4, 5] [] rfl rfl (by decide) (by decide) (by decide) 0 1 rfl rfl rfl hl.1 (Nat.le_of_ble_eq_true rfl) ⟨Nat.le_of_ble_eq_true rfl, Nat.le_of_ble_eq_true rfl⟩ rfl dX2_isIn_59 (fun u9 H locs hw9 hP hD hS => ?_)
            have hP : va_P G.1 CL (PW G ph pd nr nc (tn nr nc (bk t) (tn nr nc t pL)) pG pB pk pa pt pm) _ := hP
            have hD : va_D A (PW G ph pd nr nc (tn nr nc (bk t) (tn nr nc t pL)) pG pB pk pa pt pm) := hD
            rw [show (tn nr nc (bk t) (tn nr nc t pL)) = pL from (tn_bk hd (by omega) pL)] at hP hD
            refine lv_iinc (v := nI (t + 1)) (lv' := [(3, .int (nI (t + 1))), (2, .int (bI (rch nr nc pB pG 0 (tn nr nc t pL)))), (0, .ref ph), (1, .int (nI 1))]) hx hb dX2_isIn_62 hl (k := 1) rfl (nI_add _ _) (by decide) rfl (fun ls hl => ?_)
            refine lv_goto (tgt := 13) hx hb dX2_isIn_65 (by decide) ?_
            exact ih13 (t + 1) (rch nr nc pB pG 0 (tn nr nc t pL)) (by omega) (by omega) (by rw [ay, ← hb0, c22, c30]; rfl) _ _ _ hP hD hS (lv_sub hl [0, 1, 2, 3] rfl)
  exact lp13 _ 0 false (Nat.lt_succ_self _) (by omega) rfl _ _ _ hP hD hS (lv_sub hl [0, 1, 2, 3] rfl)
set_option maxHeartbeats 4000000 in
set_option maxRecDepth 100000 in
theorem m_X2_isIn__2 (l : Launch) (G : GG) (ph : Nat) (pd : Nat → Nat) (nr : Nat) (nc : Nat) (pL : Nat → Nat) (pG : Nat → Nat) (pB : Nat → Bool) (pk : Nat → Int32) (pa : Nat → Nat) (pt : Nat → Nat) (pm : Nat) (hd : 2 ≤ nr ∧ nr ≤ 3 ∧ 2 ≤ nc ∧ nc ≤ 3) (hL : ∀ i, pL i < 65536) (hG : ∀ i, pG i < 65536) : MM l G yX2_isIn cX2_isIn 4 (some .boolean) ⟨6, 0, 0, 130⟩ [.ref ph, .int (nI 2)] (PW G ph pd nr nc pL pG pB pk pa pt pm) (Qi_ G (fun (r : Int32) (_ : Unit) => r = bI (rch nr nc pB pG 2 pL)) (fun (_ : Unit) => (PW G ph pd nr nc pL pG pB pk pa pt pm))) := by
  refine MM.of (by decide) (Nat.le_of_ble_eq_true rfl) ?_
  intro p e s m args below meth cd A C hini hA hK hZ hP hD ls hl
  generalize hQ : MQ below ((Qi_ G (fun (r : Int32) (_ : Unit) => r = bI (rch nr nc pB pG 2 pL)) (fun (_ : Unit) => (PW G ph pd nr nc pL pG pB pk pa pt pm))) A) args s (⟨6, 0, 0, 130⟩ : Room).cells (⟨6, 0, 0, 130⟩ : Room).slots A = Q
  obtain ⟨hx, hb, hr, hts, hown, hlk, hml⟩ := C
  have hown : s.vm.findClass RX2 = some m.cls := hown
  have hS : va_S A s.heap s.heap [] := va_S.rf
  have hl : lv_has ls 4 [(0, .ref ph), (1, .int (nI 2))] := hl
  have hmu := dm_mul hd
  refine lv_iload_n hx hb dX2_isIn_0 rfl (lv_at hl 1 rfl) ?_
  refine n_if_ne (tgt := 9) hx hb dX2_isIn_1 (by decide) (by decide) (fun c1 => ?_) (fun c1 => ?_)
  rotate_left
  · exact absurd c1 (by decide)
  refine lv_iconst (v := nI 0) hx hb dX2_isIn_9 (by decide) ?_
  refine lv_istore_n (lv' := [(2, .int (nI 0)), (0, .ref ph), (1, .int (nI 2))]) hx hb dX2_isIn_10 rfl hl (by decide) rfl (fun ls hl => ?_)
  refine lv_iconst (v := nI 0) hx hb dX2_isIn_11 (by decide) ?_
  refine lv_istore_n (lv' := [(3, .int (nI 0)), (2, .int (nI 0)), (0, .ref ph), (1, .int (nI 2))]) hx hb dX2_isIn_12 rfl hl (by decide) rfl (fun ls hl => ?_)
  have lp13 : ∀ (f : Nat) (t : Nat) (bb : Bool), 2 * (nr + nc) - t < f → (t ≤ 2 * (nr + nc)) → (bb = ay (fun t => !pB (t / 2) && rch nr nc pB pG 1 (tn nr nc t pL)) t) → ∀ (H : Heap) (locs : List Loc) (ls : Array Slot), va_P G.1 CL (PW G ph pd nr nc pL pG pB pk pa pt pm) H → va_D A (PW G ph pd nr nc pL pG pB pk pa pt pm) → va_S A s.heap H locs → lv_has ls 4 [(3, .int (nI t)), (2, .int (bI bb)), (0, .ref ph), (1, .int (nI 2))] → W p l e (⟨6, 0, 0, 130⟩ : Room) s m args below meth cd H locs 0 0 Q (F0 m 13 ls []) := by
    intro f
    induction f with
    | zero => intro t bb hf; exact absurd hf (Nat.not_lt_zero _)
    | succ f ih13 =>
      intro t bb hf ht hb0 H locs ls hP hD hS hl
      refine lv_iload_n hx hb dX2_isIn_13 rfl (lv_at hl 0 rfl) ?_
      refine lv_aload_n hx hb dX2_isIn_14 rfl (lv_at hl 2 rfl) ?_
      refine callVi (As := []) (rest := [.int (nI t)]) (wc := (PW G ph pd nr nc pL pG pB pk pa pt pm)) (wr := ([] : va_W)) ⟨hx, hb, hml, hown, hts⟩ (m_X2_turns l G ph pd nr nc pL pG pB pk pa pt pm ) (cwV 0 hts (lw_V q1022 q1023 q1024 q89 q1025) rfl rfl rfl (by decide +kernel) ⟨Nat.le_of_ble_eq_true rfl, Nat.le_of_ble_eq_true rfl⟩) hK hZ hA hP hD hS [0, 1, 2, 3, 4, 5] [] rfl rfl (by decide) (by decide) (by decide) 0 1 rfl rfl rfl hl.1 (Nat.le_of_ble_eq_true rfl) ⟨Nat.le_of_ble_eq_true rfl, Nat.le_of_ble_eq_true rfl⟩ rfl dX2_isIn_15 (fun r9 u9 H locs hw9 hP hD hS => ?_)
      subst hw9
      have hP : va_P G.1 CL (PW G ph pd nr nc pL pG pB pk pa pt pm) _ := hP
      have hD : va_D A (PW G ph pd nr nc pL pG pB pk pa pt pm) := hD
      refine n_cmp_ge (tgt := 68) hx hb dX2_isIn_18 (by decide) (by omega) (by omega) (fun c18 => ?_) (fun c18 => ?_)
      · skip
        refine lv_iload_n hx hb dX2_isIn_68 rfl (lv_at hl 1 rfl) ?_
        subst hQ
        exact ret_i hx hb hr hlk () (congrArg bI (by first | (rw [hb0, show t = 2 * (nr + nc) by omega]; rfl) | (rw [c22]; exact (ay_le (hb0 ▸ c22) ht).symm))) hP hD hS (bI_nar _) dX2_isIn_69
      · skip
        refine lv_iload_n hx hb dX2_isIn_21 rfl (lv_at hl 1 rfl) ?_
        refine b_if_ne (tgt := 68) hx hb dX2_isIn_22 (by decide) (fun c22 => ?_) (fun c22 => ?_)
        · skip
          refine lv_iload_n hx hb dX2_isIn_68 rfl (lv_at hl 1 rfl) ?_
          subst hQ
          exact ret_i hx hb hr hlk () (congrArg bI (by first | (rw [hb0, show t = 2 * (nr + nc) by omega]; rfl) | (rw [c22]; exact (ay_le (hb0 ▸ c22) ht).symm))) hP hD hS (bI_nar _) dX2_isIn_69
        · skip
          refine lv_aload_n hx hb dX2_isIn_25 rfl (lv_at hl 2 rfl) ?_
          refine lv_iload_n hx hb dX2_isIn_26 rfl (lv_at hl 0 rfl) ?_
          refine callVi (As := [.int (nI t)]) (rest := []) (wc := (PW G ph pd nr nc pL pG pB pk pa pt pm)) (wr := ([] : va_W)) ⟨hx, hb, hml, hown, hts⟩ (m_X2_can l G ph pd nr nc pL pG pB pk pa pt pm t (by first | assumption | omega) (by first | assumption | omega)) (cwV 1 hts (lw_V q1027 q1028 q1029 q89 q1030) rfl rfl rfl (by decide +kernel) ⟨Nat.le_of_ble_eq_true rfl, Nat.le_of_ble_eq_true rfl⟩) hK hZ hA hP hD hS [0, 1, 2, 3, 4, 5] [] rfl rfl (by decide) (by decide) (by decide) 0 1 rfl rfl rfl hl.1 (Nat.le_of_ble_eq_true rfl) ⟨Nat.le_of_ble_eq_true rfl, Nat.le_of_ble_eq_true rfl⟩ rfl dX2_isIn_27 (fun r9 u9 H locs hw9 hP hD hS => ?_)
          subst hw9
          have hP : va_P G.1 CL (PW G ph pd nr nc pL pG pB pk pa pt pm) _ := hP
          have hD : va_D A (PW G ph pd nr nc pL pG pB pk pa pt pm) := hD
          refine b_if_eq (tgt := 62) hx hb dX2_isIn_30 (by decide) (fun c30 => ?_) (fun c30 => ?_)
          · skip
            refine lv_iinc (v := nI (t + 1)) (lv' := [(3, .int (nI (t + 1))), (2, .int (bI bb)), (0, .ref ph), (1, .int (nI 2))]) hx hb dX2_isIn_62 hl (k := 0) rfl (nI_add _ _) (by decide) rfl (fun ls hl => ?_)
            refine lv_goto (tgt := 13) hx hb dX2_isIn_65 (by decide) ?_
            exact ih13 (t + 1) bb (by omega) (by omega) (by rw [ay, ← hb0, c22, c30]; rfl) _ _ _ hP hD hS (lv_sub hl [0, 1, 2, 3] rfl)
          · skip
            refine lv_aload_n hx hb dX2_isIn_33 rfl (lv_at hl 2 rfl) ?_
            refine lv_aload_n hx hb dX2_isIn_34 rfl (lv_at hl 2 rfl) ?_
            refine va_get (D := G.1) (ci := 1) (v := .ref (pd 0)) (C := RX2) (T := TX2) (N := 14) hx hb hts in_X2 hown hK hP 0 rfl rfl 2 (by decide) (hts _ q145) (fun _ h9 => h9) rfl dX2_isIn_35 ?_
            refine lv_iload_n hx hb dX2_isIn_38 rfl (lv_at hl 0 rfl) ?_
            refine callVv (As := [.ref (pd 0), .int (nI t)]) (rest := []) (wc := (PW G ph pd nr nc pL pG pB pk pa pt pm)) (wr := ([] : va_W)) ⟨hx, hb, hml, hown, hts⟩ (m_X2_turns_2__L l G ph pd nr nc pL pG pB pk pa pt pm t (by first | assumption | omega) (by first | assumption | omega) (by first | assumption | omega)) (cwV 2 hts (lw_V q1031 q1032 q1033 q89 q1034) rfl rfl rfl (by decide +kernel) ⟨Nat.le_of_ble_eq_true rfl, Nat.le_of_ble_eq_true rfl⟩) hK hZ hA hP hD hS [0, 1, 2, 3, 4, 5] [] rfl rfl (by decide) (by decide) (by decide) 0 1 rfl rfl rfl hl.1 (Nat.le_of_ble_eq_true rfl) ⟨Nat.le_of_ble_eq_true rfl, Nat.le_of_ble_eq_true rfl⟩ rfl dX2_isIn_39 (fun u9 H locs hw9 hP hD hS => ?_)
            have hP : va_P G.1 CL (PW G ph pd nr nc (tn nr nc t pL) pG pB pk pa pt pm) _ := hP
            have hD : va_D A (PW G ph pd nr nc (tn nr nc t pL) pG pB pk pa pt pm) := hD
            refine lv_aload_n hx hb dX2_isIn_42 rfl (lv_at hl 2 rfl) ?_
            refine lv_iload_n hx hb dX2_isIn_43 rfl (lv_at hl 3 rfl) ?_
            refine lv_iconst (v := nI 1) hx hb dX2_isIn_44 (by decide) ?_
            refine n_isub hx hb (by decide) dX2_isIn_45 ?_
            refine callVi (As := [.int (nI 1)]) (rest := []) (wc := (PW G ph pd nr nc (tn nr nc t pL) pG pB pk pa pt pm)) (wr := ([] : va_W)) ⟨hx, hb, hml, hown, hts⟩ (m_X2_isIn__1 l G ph pd nr nc (tn nr nc t pL) pG pB pk pa pt pm (by first | assumption | omega) (tn_lt hL) (by first | assumption | omega)) (cwV 1 hts (lw_V q1051 q1053 qs12 q89 q1054) rfl rfl rfl (by decide +kernel) ⟨Nat.le_of_ble_eq_true rfl, Nat.le_of_ble_eq_true rfl⟩) hK hZ hA hP hD hS [0, 1, 2, 3, 4, 5] [] rfl rfl (by decide) (by decide) (by decide) 0 1 rfl rfl rfl hl.1 (Nat.le_of_ble_eq_true rfl) ⟨Nat.le_of_ble_eq_true rfl, Nat.le_of_ble_eq_true rfl⟩ rfl dX2_isIn_46 (fun r9 u9 H locs hw9 hP hD hS => ?_)
            subst hw9
            have hP : va_P G.1 CL (PW G ph pd nr nc (tn nr nc t pL) pG pB pk pa pt pm) _ := hP
            have hD : va_D A (PW G ph pd nr nc (tn nr nc t pL) pG pB pk pa pt pm) := hD
            refine lv_istore_n (lv' := [(2, .int (bI (rch nr nc pB pG 1 (tn nr nc t pL)))), (3, .int (nI t)), (0, .ref ph), (1, .int (nI 2))]) hx hb dX2_isIn_49 rfl hl (by decide) rfl (fun ls hl => ?_)
            refine lv_aload_n hx hb dX2_isIn_50 rfl (lv_at hl 2 rfl) ?_
            refine lv_aload_n hx hb dX2_isIn_51 rfl (lv_at hl 2 rfl) ?_
            refine va_get (D := G.1) (ci := 1) (v := .ref (pd 0)) (C := RX2) (T := TX2) (N := 14) hx hb hts in_X2 hown hK hP 0 rfl rfl 2 (by decide) (hts _ q145) (fun _ h9 => h9) rfl dX2_isIn_52 ?_
            refine lv_iload_n hx hb dX2_isIn_55 rfl (lv_at hl 1 rfl) ?_
            refine callSi (As := [.int (nI t)]) (rest := [.ref (pd 0), .ref ph]) (wc := ([] : va_W)) (wr := (PW G ph pd nr nc (tn nr nc t pL) pG pB pk pa pt pm)) ⟨hx, hb, hml, hown, hts⟩ (m_X2_back l G t (by first | assumption | omega)) (va_cwS 1 hts (lw_S q1035 q1036 q89 q1037) rfl rfl rfl (by decide +kernel) ⟨Nat.le_of_ble_eq_true rfl, Nat.le_of_ble_eq_true rfl⟩) hK hZ hA hP hD hS [] [0, 1, 2, 3, 4, 5] rfl rfl (by decide) (by decide) (by decide) rfl hl.1 (Nat.le_of_ble_eq_true rfl) ⟨Nat.le_of_ble_eq_true rfl, Nat.le_of_ble_eq_true rfl⟩ rfl dX2_isIn_56 (fun r9 u9 H locs hw9 hP hD hS => ?_)
            subst hw9
            have hP : va_P G.1 CL (PW G ph pd nr nc (tn nr nc t pL) pG pB pk pa pt pm) _ := hP
            have hD : va_D A (PW G ph pd nr nc (tn nr nc t pL) pG pB pk pa pt pm) := hD
            refine callVv (As := [.ref (pd 0), .int (nI (bk t))]) (rest := []) (wc := (PW G ph pd nr nc (tn nr nc t pL) pG pB pk pa pt pm)) (wr := ([] : va_W)) ⟨hx, hb, hml, hown, hts⟩ (m_X2_turns_2__L l G ph pd nr nc (tn nr nc t pL) pG pB pk pa pt pm (bk t) (by first | assumption | omega) (bk_lt hd (by omega)).1 (tn_lt hL)) (cwV 2 hts (lw_V q1031 q1032 q1033 q89 q1034) rfl rfl rfl (by decide +kernel) ⟨Nat.le_of_ble_eq_true rfl, Nat.le_of_ble_eq_true rfl⟩) hK hZ hA hP hD hS [0, 1, 2, 3, 4, 5] [] rfl rfl (by decide) (by decide) (by decide) 0 1 rfl rfl rfl hl.1 (Nat.le_of_ble_eq_true rfl) ⟨Nat.le_of_ble_eq_true rfl, Nat.le_of_ble_eq_true rfl⟩ rfl dX2_isIn_59 (fun u9 H locs hw9 hP hD hS => ?_)
            have hP : va_P G.1 CL (PW G ph pd nr nc (tn nr nc (bk t) (tn nr nc t pL)) pG pB pk pa pt pm) _ := hP
            have hD : va_D A (PW G ph pd nr nc (tn nr nc (bk t) (tn nr nc t pL)) pG pB pk pa pt pm) := hD
            rw [show (tn nr nc (bk t) (tn nr nc t pL)) = pL from (tn_bk hd (by omega) pL)] at hP hD
            refine lv_iinc (v := nI (t + 1)) (lv' := [(3, .int (nI (t + 1))), (2, .int (bI (rch nr nc pB pG 1 (tn nr nc t pL)))), (0, .ref ph), (1, .int (nI 2))]) hx hb dX2_isIn_62 hl (k := 1) rfl (nI_add _ _) (by decide) rfl (fun ls hl => ?_)
            refine lv_goto (tgt := 13) hx hb dX2_isIn_65 (by decide) ?_
            exact ih13 (t + 1) (rch nr nc pB pG 1 (tn nr nc t pL)) (by omega) (by omega) (by rw [ay, ← hb0, c22, c30]; rfl) _ _ _ hP hD hS (lv_sub hl [0, 1, 2, 3] rfl)
  exact lp13 _ 0 false (Nat.lt_succ_self _) (by omega) rfl _ _ _ hP hD hS (lv_sub hl [0, 1, 2, 3] rfl)
set_option maxHeartbeats 4000000 in
set_option maxRecDepth 100000 in
theorem m_X2_isIn__3 (l : Launch) (G : GG) (ph : Nat) (pd : Nat → Nat) (nr : Nat) (nc : Nat) (pL : Nat → Nat) (pG : Nat → Nat) (pB : Nat → Bool) (pk : Nat → Int32) (pa : Nat → Nat) (pt : Nat → Nat) (pm : Nat) (hd : 2 ≤ nr ∧ nr ≤ 3 ∧ 2 ≤ nc ∧ nc ≤ 3) (hL : ∀ i, pL i < 65536) (hG : ∀ i, pG i < 65536) : MM l G yX2_isIn cX2_isIn 4 (some .boolean) ⟨7, 0, 0, 153⟩ [.ref ph, .int (nI 3)] (PW G ph pd nr nc pL pG pB pk pa pt pm) (Qi_ G (fun (r : Int32) (_ : Unit) => r = bI (rch nr nc pB pG 3 pL)) (fun (_ : Unit) => (PW G ph pd nr nc pL pG pB pk pa pt pm))) := by
  refine MM.of (by decide) (Nat.le_of_ble_eq_true rfl) ?_
  intro p e s m args below meth cd A C hini hA hK hZ hP hD ls hl
  generalize hQ : MQ below ((Qi_ G (fun (r : Int32) (_ : Unit) => r = bI (rch nr nc pB pG 3 pL)) (fun (_ : Unit) => (PW G ph pd nr nc pL pG pB pk pa pt pm))) A) args s (⟨7, 0, 0, 153⟩ : Room).cells (⟨7, 0, 0, 153⟩ : Room).slots A = Q
  obtain ⟨hx, hb, hr, hts, hown, hlk, hml⟩ := C
  have hown : s.vm.findClass RX2 = some m.cls := hown
  have hS : va_S A s.heap s.heap [] := va_S.rf
  have hl : lv_has ls 4 [(0, .ref ph), (1, .int (nI 3))] := hl
  have hmu := dm_mul hd
  refine lv_iload_n hx hb dX2_isIn_0 rfl (lv_at hl 1 rfl) ?_
  refine n_if_ne (tgt := 9) hx hb dX2_isIn_1 (by decide) (by decide) (fun c1 => ?_) (fun c1 => ?_)
  rotate_left
  · exact absurd c1 (by decide)
  refine lv_iconst (v := nI 0) hx hb dX2_isIn_9 (by decide) ?_
  refine lv_istore_n (lv' := [(2, .int (nI 0)), (0, .ref ph), (1, .int (nI 3))]) hx hb dX2_isIn_10 rfl hl (by decide) rfl (fun ls hl => ?_)
  refine lv_iconst (v := nI 0) hx hb dX2_isIn_11 (by decide) ?_
  refine lv_istore_n (lv' := [(3, .int (nI 0)), (2, .int (nI 0)), (0, .ref ph), (1, .int (nI 3))]) hx hb dX2_isIn_12 rfl hl (by decide) rfl (fun ls hl => ?_)
  have lp13 : ∀ (f : Nat) (t : Nat) (bb : Bool), 2 * (nr + nc) - t < f → (t ≤ 2 * (nr + nc)) → (bb = ay (fun t => !pB (t / 2) && rch nr nc pB pG 2 (tn nr nc t pL)) t) → ∀ (H : Heap) (locs : List Loc) (ls : Array Slot), va_P G.1 CL (PW G ph pd nr nc pL pG pB pk pa pt pm) H → va_D A (PW G ph pd nr nc pL pG pB pk pa pt pm) → va_S A s.heap H locs → lv_has ls 4 [(3, .int (nI t)), (2, .int (bI bb)), (0, .ref ph), (1, .int (nI 3))] → W p l e (⟨7, 0, 0, 153⟩ : Room) s m args below meth cd H locs 0 0 Q (F0 m 13 ls []) := by
    intro f
    induction f with
    | zero => intro t bb hf; exact absurd hf (Nat.not_lt_zero _)
    | succ f ih13 =>
      intro t bb hf ht hb0 H locs ls hP hD hS hl
      refine lv_iload_n hx hb dX2_isIn_13 rfl (lv_at hl 0 rfl) ?_
      refine lv_aload_n hx hb dX2_isIn_14 rfl (lv_at hl 2 rfl) ?_
      refine callVi (As := []) (rest := [.int (nI t)]) (wc := (PW G ph pd nr nc pL pG pB pk pa pt pm)) (wr := ([] : va_W)) ⟨hx, hb, hml, hown, hts⟩ (m_X2_turns l G ph pd nr nc pL pG pB pk pa pt pm ) (cwV 0 hts (lw_V q1022 q1023 q1024 q89 q1025) rfl rfl rfl (by decide +kernel) ⟨Nat.le_of_ble_eq_true rfl, Nat.le_of_ble_eq_true rfl⟩) hK hZ hA hP hD hS [0, 1, 2, 3, 4, 5] [] rfl rfl (by decide) (by decide) (by decide) 0 1 rfl rfl rfl hl.1 (Nat.le_of_ble_eq_true rfl) ⟨Nat.le_of_ble_eq_true rfl, Nat.le_of_ble_eq_true rfl⟩ rfl dX2_isIn_15 (fun r9 u9 H locs hw9 hP hD hS => ?_)
      subst hw9
      have hP : va_P G.1 CL (PW G ph pd nr nc pL pG pB pk pa pt pm) _ := hP
      have hD : va_D A (PW G ph pd nr nc pL pG pB pk pa pt pm) := hD
      refine n_cmp_ge (tgt := 68) hx hb dX2_isIn_18 (by decide) (by omega) (by omega) (fun c18 => ?_) (fun c18 => ?_)
      · skip
        refine lv_iload_n hx hb dX2_isIn_68 rfl (lv_at hl 1 rfl) ?_
        subst hQ
        exact ret_i hx hb hr hlk () (congrArg bI (by first | (rw [hb0, show t = 2 * (nr + nc) by omega]; rfl) | (rw [c22]; exact (ay_le (hb0 ▸ c22) ht).symm))) hP hD hS (bI_nar _) dX2_isIn_69
      · skip
        refine lv_iload_n hx hb dX2_isIn_21 rfl (lv_at hl 1 rfl) ?_
        refine b_if_ne (tgt := 68) hx hb dX2_isIn_22 (by decide) (fun c22 => ?_) (fun c22 => ?_)
        · skip
          refine lv_iload_n hx hb dX2_isIn_68 rfl (lv_at hl 1 rfl) ?_
          subst hQ
          exact ret_i hx hb hr hlk () (congrArg bI (by first | (rw [hb0, show t = 2 * (nr + nc) by omega]; rfl) | (rw [c22]; exact (ay_le (hb0 ▸ c22) ht).symm))) hP hD hS (bI_nar _) dX2_isIn_69
        · skip
          refine lv_aload_n hx hb dX2_isIn_25 rfl (lv_at hl 2 rfl) ?_
          refine lv_iload_n hx hb dX2_isIn_26 rfl (lv_at hl 0 rfl) ?_
          refine callVi (As := [.int (nI t)]) (rest := []) (wc := (PW G ph pd nr nc pL pG pB pk pa pt pm)) (wr := ([] : va_W)) ⟨hx, hb, hml, hown, hts⟩ (m_X2_can l G ph pd nr nc pL pG pB pk pa pt pm t (by first | assumption | omega) (by first | assumption | omega)) (cwV 1 hts (lw_V q1027 q1028 q1029 q89 q1030) rfl rfl rfl (by decide +kernel) ⟨Nat.le_of_ble_eq_true rfl, Nat.le_of_ble_eq_true rfl⟩) hK hZ hA hP hD hS [0, 1, 2, 3, 4, 5] [] rfl rfl (by decide) (by decide) (by decide) 0 1 rfl rfl rfl hl.1 (Nat.le_of_ble_eq_true rfl) ⟨Nat.le_of_ble_eq_true rfl, Nat.le_of_ble_eq_true rfl⟩ rfl dX2_isIn_27 (fun r9 u9 H locs hw9 hP hD hS => ?_)
          subst hw9
          have hP : va_P G.1 CL (PW G ph pd nr nc pL pG pB pk pa pt pm) _ := hP
          have hD : va_D A (PW G ph pd nr nc pL pG pB pk pa pt pm) := hD
          refine b_if_eq (tgt := 62) hx hb dX2_isIn_30 (by decide) (fun c30 => ?_) (fun c30 => ?_)
          · skip
            refine lv_iinc (v := nI (t + 1)) (lv' := [(3, .int (nI (t + 1))), (2, .int (bI bb)), (0, .ref ph), (1, .int (nI 3))]) hx hb dX2_isIn_62 hl (k := 0) rfl (nI_add _ _) (by decide) rfl (fun ls hl => ?_)
            refine lv_goto (tgt := 13) hx hb dX2_isIn_65 (by decide) ?_
            exact ih13 (t + 1) bb (by omega) (by omega) (by rw [ay, ← hb0, c22, c30]; rfl) _ _ _ hP hD hS (lv_sub hl [0, 1, 2, 3] rfl)
          · skip
            refine lv_aload_n hx hb dX2_isIn_33 rfl (lv_at hl 2 rfl) ?_
            refine lv_aload_n hx hb dX2_isIn_34 rfl (lv_at hl 2 rfl) ?_
            refine va_get (D := G.1) (ci := 1) (v := .ref (pd 0)) (C := RX2) (T := TX2) (N := 14) hx hb hts in_X2 hown hK hP 0 rfl rfl 2 (by decide) (hts _ q145) (fun _ h9 => h9) rfl dX2_isIn_35 ?_
            refine lv_iload_n hx hb dX2_isIn_38 rfl (lv_at hl 0 rfl) ?_
            refine callVv (As := [.ref (pd 0), .int (nI t)]) (rest := []) (wc := (PW G ph pd nr nc pL pG pB pk pa pt pm)) (wr := ([] : va_W)) ⟨hx, hb, hml, hown, hts⟩ (m_X2_turns_2__L l G ph pd nr nc pL pG pB pk pa pt pm t (by first | assumption | omega) (by first | assumption | omega) (by first | assumption | omega)) (cwV 2 hts (lw_V q1031 q1032 q1033 q89 q1034) rfl rfl rfl (by decide +kernel) ⟨Nat.le_of_ble_eq_true rfl, Nat.le_of_ble_eq_true rfl⟩) hK hZ hA hP hD hS [0, 1, 2, 3, 4, 5] [] rfl rfl (by decide) (by decide) (by decide) 0 1 rfl rfl rfl hl.1 (Nat.le_of_ble_eq_true rfl) ⟨Nat.le_of_ble_eq_true rfl, Nat.le_of_ble_eq_true rfl⟩ rfl dX2_isIn_39 (fun u9 H locs hw9 hP hD hS => ?_)
            have hP : va_P G.1 CL (PW G ph pd nr nc (tn nr nc t pL) pG pB pk pa pt pm) _ := hP
            have hD : va_D A (PW G ph pd nr nc (tn nr nc t pL) pG pB pk pa pt pm) := hD
            refine lv_aload_n hx hb dX2_isIn_42 rfl (lv_at hl 2 rfl) ?_
            refine lv_iload_n hx hb dX2_isIn_43 rfl (lv_at hl 3 rfl) ?_
            refine lv_iconst (v := nI 1) hx hb dX2_isIn_44 (by decide) ?_
            refine n_isub hx hb (by decide) dX2_isIn_45 ?_
            refine callVi (As := [.int (nI 2)]) (rest := []) (wc := (PW G ph pd nr nc (tn nr nc t pL) pG pB pk pa pt pm)) (wr := ([] : va_W)) ⟨hx, hb, hml, hown, hts⟩ (m_X2_isIn__2 l G ph pd nr nc (tn nr nc t pL) pG pB pk pa pt pm (by first | assumption | omega) (tn_lt hL) (by first | assumption | omega)) (cwV 1 hts (lw_V q1051 q1053 qs12 q89 q1054) rfl rfl rfl (by decide +kernel) ⟨Nat.le_of_ble_eq_true rfl, Nat.le_of_ble_eq_true rfl⟩) hK hZ hA hP hD hS [0, 1, 2, 3, 4, 5] [] rfl rfl (by decide) (by decide) (by decide) 0 1 rfl rfl rfl hl.1 (Nat.le_of_ble_eq_true rfl) ⟨Nat.le_of_ble_eq_true rfl, Nat.le_of_ble_eq_true rfl⟩ rfl dX2_isIn_46 (fun r9 u9 H locs hw9 hP hD hS => ?_)
            subst hw9
            have hP : va_P G.1 CL (PW G ph pd nr nc (tn nr nc t pL) pG pB pk pa pt pm) _ := hP
            have hD : va_D A (PW G ph pd nr nc (tn nr nc t pL) pG pB pk pa pt pm) := hD
            refine lv_istore_n (lv' := [(2, .int (bI (rch nr nc pB pG 2 (tn nr nc t pL)))), (3, .int (nI t)), (0, .ref ph), (1, .int (nI 3))]) hx hb dX2_isIn_49 rfl hl (by decide) rfl (fun ls hl => ?_)
            refine lv_aload_n hx hb dX2_isIn_50 rfl (lv_at hl 2 rfl) ?_
            refine lv_aload_n hx hb dX2_isIn_51 rfl (lv_at hl 2 rfl) ?_
            refine va_get (D := G.1) (ci := 1) (v := .ref (pd 0)) (C := RX2) (T := TX2) (N := 14) hx hb hts in_X2 hown hK hP 0 rfl rfl 2 (by decide) (hts _ q145) (fun _ h9 => h9) rfl dX2_isIn_52 ?_
            refine lv_iload_n hx hb dX2_isIn_55 rfl (lv_at hl 1 rfl) ?_
            refine callSi (As := [.int (nI t)]) (rest := [.ref (pd 0), .ref ph]) (wc := ([] : va_W)) (wr := (PW G ph pd nr nc (tn nr nc t pL) pG pB pk pa pt pm)) ⟨hx, hb, hml, hown, hts⟩ (m_X2_back l G t (by first | assumption | omega)) (va_cwS 1 hts (lw_S q1035 q1036 q89 q1037) rfl rfl rfl (by decide +kernel) ⟨Nat.le_of_ble_eq_true rfl, Nat.le_of_ble_eq_true rfl⟩) hK hZ hA hP hD hS [] [0, 1, 2, 3, 4, 5] rfl rfl (by decide) (by decide) (by decide) rfl hl.1 (Nat.le_of_ble_eq_true rfl) ⟨Nat.le_of_ble_eq_true rfl, Nat.le_of_ble_eq_true rfl⟩ rfl dX2_isIn_56 (fun r9 u9 H locs hw9 hP hD hS => ?_)
            subst hw9
            have hP : va_P G.1 CL (PW G ph pd nr nc (tn nr nc t pL) pG pB pk pa pt pm) _ := hP
            have hD : va_D A (PW G ph pd nr nc (tn nr nc t pL) pG pB pk pa pt pm) := hD
            refine callVv (As := [.ref (pd 0), .int (nI (bk t))]) (rest := []) (wc := (PW G ph pd nr nc (tn nr nc t pL) pG pB pk pa pt pm)) (wr := ([] : va_W)) ⟨hx, hb, hml, hown, hts⟩ (m_X2_turns_2__L l G ph pd nr nc (tn nr nc t pL) pG pB pk pa pt pm (bk t) (by first | assumption | omega) (bk_lt hd (by omega)).1 (tn_lt hL)) (cwV 2 hts (lw_V q1031 q1032 q1033 q89 q1034) rfl rfl rfl (by decide +kernel) ⟨Nat.le_of_ble_eq_true rfl, Nat.le_of_ble_eq_true rfl⟩) hK hZ hA hP hD hS [0, 1, 2, 3, 4, 5] [] rfl rfl (by decide) (by decide) (by decide) 0 1 rfl rfl rfl hl.1 (Nat.le_of_ble_eq_true rfl) ⟨Nat.le_of_ble_eq_true rfl, Nat.le_of_ble_eq_true rfl⟩ rfl dX2_isIn_59 (fun u9 H locs hw9 hP hD hS => ?_)
            have hP : va_P G.1 CL (PW G ph pd nr nc (tn nr nc (bk t) (tn nr nc t pL)) pG pB pk pa pt pm) _ := hP
            have hD : va_D A (PW G ph pd nr nc (tn nr nc (bk t) (tn nr nc t pL)) pG pB pk pa pt pm) := hD
            rw [show (tn nr nc (bk t) (tn nr nc t pL)) = pL from (tn_bk hd (by omega) pL)] at hP hD
            refine lv_iinc (v := nI (t + 1)) (lv' := [(3, .int (nI (t + 1))), (2, .int (bI (rch nr nc pB pG 2 (tn nr nc t pL)))), (0, .ref ph), (1, .int (nI 3))]) hx hb dX2_isIn_62 hl (k := 1) rfl (nI_add _ _) (by decide) rfl (fun ls hl => ?_)
            refine lv_goto (tgt := 13) hx hb dX2_isIn_65 (by decide) ?_
            exact ih13 (t + 1) (rch nr nc pB pG 2 (tn nr nc t pL)) (by omega) (by omega) (by rw [ay, ← hb0, c22, c30]; rfl) _ _ _ hP hD hS (lv_sub hl [0, 1, 2, 3] rfl)
  exact lp13 _ 0 false (Nat.lt_succ_self _) (by omega) rfl _ _ _ hP hD hS (lv_sub hl [0, 1, 2, 3] rfl)
set_option maxHeartbeats 4000000 in
set_option maxRecDepth 100000 in
theorem m_X2_awayAgain (l : Launch) (G : GG) (ph : Nat) (pd : Nat → Nat) (nr : Nat) (nc : Nat) (pL : Nat → Nat) (pG : Nat → Nat) (pB : Nat → Bool) (pk : Nat → Int32) (pa : Nat → Nat) (pt : Nat → Nat) (pm : Nat) (hd : 2 ≤ nr ∧ nr ≤ 3 ∧ 2 ≤ nc ∧ nc ≤ 3) (hL : ∀ i, pL i < 65536) (hG : ∀ i, pG i < 65536) : MM l G yX2_awayAgain cX2_awayAgain 2 (some .int) ⟨8, 0, 0, 176⟩ [.ref ph] (PW G ph pd nr nc pL pG pB pk pa pt pm) (Qi_ G (fun (r : Int32) (_ : Unit) => r = (oN 4 (awN (fun d => rch nr nc pB pG d pL)))) (fun (_ : Unit) => (PW G ph pd nr nc pL pG pB pk pa pt pm))) := by
  refine MM.of (by decide) (Nat.le_of_ble_eq_true rfl) ?_
  intro p e s m args below meth cd A C hini hA hK hZ hP hD ls hl
  generalize hQ : MQ below ((Qi_ G (fun (r : Int32) (_ : Unit) => r = (oN 4 (awN (fun d => rch nr nc pB pG d pL)))) (fun (_ : Unit) => (PW G ph pd nr nc pL pG pB pk pa pt pm))) A) args s (⟨8, 0, 0, 176⟩ : Room).cells (⟨8, 0, 0, 176⟩ : Room).slots A = Q
  obtain ⟨hx, hb, hr, hts, hown, hlk, hml⟩ := C
  have hown : s.vm.findClass RX2 = some m.cls := hown
  have hS : va_S A s.heap s.heap [] := va_S.rf
  have hl : lv_has ls 2 [(0, .ref ph)] := hl
  have hmu := dm_mul hd
  refine lv_iconst (v := nI 0) hx hb dX2_awayAgain_0 (by decide) ?_
  refine lv_istore_n (lv' := [(1, .int (nI 0)), (0, .ref ph)]) hx hb dX2_awayAgain_1 rfl hl (by decide) rfl (fun ls hl => ?_)
  refine lv_iload_n hx hb dX2_awayAgain_2 rfl (lv_at hl 0 rfl) ?_
  refine lv_iconst (v := nI 3) hx hb dX2_awayAgain_3 (by decide) ?_
  refine n_cmp_gt (tgt := 23) hx hb dX2_awayAgain_4 (by decide) (by decide) (by decide) (fun c4 => ?_) (fun c4 => ?_)
  · exact absurd c4 (by decide)
  refine lv_aload_n hx hb dX2_awayAgain_7 rfl (lv_at hl 1 rfl) ?_
  refine lv_iload_n hx hb dX2_awayAgain_8 rfl (lv_at hl 0 rfl) ?_
  refine callVi (As := [.int (nI 0)]) (rest := []) (wc := (PW G ph pd nr nc pL pG pB pk pa pt pm)) (wr := ([] : va_W)) ⟨hx, hb, hml, hown, hts⟩ (m_X2_isIn__0 l G ph pd nr nc pL pG pB pk pa pt pm (by first | assumption | omega) (by first | assumption | omega) (by first | assumption | omega)) (cwV 1 hts (lw_V q1051 q1053 qs12 q89 q1054) rfl rfl rfl (by decide +kernel) ⟨Nat.le_of_ble_eq_true rfl, Nat.le_of_ble_eq_true rfl⟩) hK hZ hA hP hD hS [0, 1, 2, 3, 4, 5] [] rfl rfl (by decide) (by decide) (by decide) 0 1 rfl rfl rfl hl.1 (Nat.le_of_ble_eq_true rfl) ⟨Nat.le_of_ble_eq_true rfl, Nat.le_of_ble_eq_true rfl⟩ rfl dX2_awayAgain_9 (fun r9 u9 H locs hw9 hP hD hS => ?_)
  subst hw9
  have hP : va_P G.1 CL (PW G ph pd nr nc pL pG pB pk pa pt pm) _ := hP
  have hD : va_D A (PW G ph pd nr nc pL pG pB pk pa pt pm) := hD
  refine b_if_eq (tgt := 17) hx hb dX2_awayAgain_12 (by decide) (fun c12 => ?_) (fun c12 => ?_)
  · skip
    refine lv_iinc (v := nI 1) (lv' := [(1, .int (nI 1)), (0, .ref ph)]) hx hb dX2_awayAgain_17 hl (k := 0) rfl (by decide) (by decide) rfl (fun ls hl => ?_)
    refine lv_goto (tgt := 2) hx hb dX2_awayAgain_20 (by decide) ?_
    refine lv_iload_n hx hb dX2_awayAgain_2 rfl (lv_at hl 0 rfl) ?_
    refine lv_iconst (v := nI 3) hx hb dX2_awayAgain_3 (by decide) ?_
    refine n_cmp_gt (tgt := 23) hx hb dX2_awayAgain_4 (by decide) (by decide) (by decide) (fun c4_2 => ?_) (fun c4_2 => ?_)
    · exact absurd c4_2 (by decide)
    refine lv_aload_n hx hb dX2_awayAgain_7 rfl (lv_at hl 1 rfl) ?_
    refine lv_iload_n hx hb dX2_awayAgain_8 rfl (lv_at hl 0 rfl) ?_
    refine callVi (As := [.int (nI 1)]) (rest := []) (wc := (PW G ph pd nr nc pL pG pB pk pa pt pm)) (wr := ([] : va_W)) ⟨hx, hb, hml, hown, hts⟩ (m_X2_isIn__1 l G ph pd nr nc pL pG pB pk pa pt pm (by first | assumption | omega) (by first | assumption | omega) (by first | assumption | omega)) (cwV 1 hts (lw_V q1051 q1053 qs12 q89 q1054) rfl rfl rfl (by decide +kernel) ⟨Nat.le_of_ble_eq_true rfl, Nat.le_of_ble_eq_true rfl⟩) hK hZ hA hP hD hS [0, 1, 2, 3, 4, 5] [] rfl rfl (by decide) (by decide) (by decide) 0 1 rfl rfl rfl hl.1 (Nat.le_of_ble_eq_true rfl) ⟨Nat.le_of_ble_eq_true rfl, Nat.le_of_ble_eq_true rfl⟩ rfl dX2_awayAgain_9 (fun r9 u9 H locs hw9 hP hD hS => ?_)
    subst hw9
    have hP : va_P G.1 CL (PW G ph pd nr nc pL pG pB pk pa pt pm) _ := hP
    have hD : va_D A (PW G ph pd nr nc pL pG pB pk pa pt pm) := hD
    refine b_if_eq (tgt := 17) hx hb dX2_awayAgain_12 (by decide) (fun c12_2 => ?_) (fun c12_2 => ?_)
    · skip
      refine lv_iinc (v := nI 2) (lv' := [(1, .int (nI 2)), (0, .ref ph)]) hx hb dX2_awayAgain_17 hl (k := 0) rfl (by decide) (by decide) rfl (fun ls hl => ?_)
      refine lv_goto (tgt := 2) hx hb dX2_awayAgain_20 (by decide) ?_
      refine lv_iload_n hx hb dX2_awayAgain_2 rfl (lv_at hl 0 rfl) ?_
      refine lv_iconst (v := nI 3) hx hb dX2_awayAgain_3 (by decide) ?_
      refine n_cmp_gt (tgt := 23) hx hb dX2_awayAgain_4 (by decide) (by decide) (by decide) (fun c4_3 => ?_) (fun c4_3 => ?_)
      · exact absurd c4_3 (by decide)
      refine lv_aload_n hx hb dX2_awayAgain_7 rfl (lv_at hl 1 rfl) ?_
      refine lv_iload_n hx hb dX2_awayAgain_8 rfl (lv_at hl 0 rfl) ?_
      refine callVi (As := [.int (nI 2)]) (rest := []) (wc := (PW G ph pd nr nc pL pG pB pk pa pt pm)) (wr := ([] : va_W)) ⟨hx, hb, hml, hown, hts⟩ (m_X2_isIn__2 l G ph pd nr nc pL pG pB pk pa pt pm (by first | assumption | omega) (by first | assumption | omega) (by first | assumption | omega)) (cwV 1 hts (lw_V q1051 q1053 qs12 q89 q1054) rfl rfl rfl (by decide +kernel) ⟨Nat.le_of_ble_eq_true rfl, Nat.le_of_ble_eq_true rfl⟩) hK hZ hA hP hD hS [0, 1, 2, 3, 4, 5] [] rfl rfl (by decide) (by decide) (by decide) 0 1 rfl rfl rfl hl.1 (Nat.le_of_ble_eq_true rfl) ⟨Nat.le_of_ble_eq_true rfl, Nat.le_of_ble_eq_true rfl⟩ rfl dX2_awayAgain_9 (fun r9 u9 H locs hw9 hP hD hS => ?_)
      subst hw9
      have hP : va_P G.1 CL (PW G ph pd nr nc pL pG pB pk pa pt pm) _ := hP
      have hD : va_D A (PW G ph pd nr nc pL pG pB pk pa pt pm) := hD
      refine b_if_eq (tgt := 17) hx hb dX2_awayAgain_12 (by decide) (fun c12_3 => ?_) (fun c12_3 => ?_)
      · skip
        refine lv_iinc (v := nI 3) (lv' := [(1, .int (nI 3)), (0, .ref ph)]) hx hb dX2_awayAgain_17 hl (k := 0) rfl (by decide) (by decide) rfl (fun ls hl => ?_)
        refine lv_goto (tgt := 2) hx hb dX2_awayAgain_20 (by decide) ?_
        refine lv_iload_n hx hb dX2_awayAgain_2 rfl (lv_at hl 0 rfl) ?_
        refine lv_iconst (v := nI 3) hx hb dX2_awayAgain_3 (by decide) ?_
        refine n_cmp_gt (tgt := 23) hx hb dX2_awayAgain_4 (by decide) (by decide) (by decide) (fun c4_4 => ?_) (fun c4_4 => ?_)
        · exact absurd c4_4 (by decide)
        refine lv_aload_n hx hb dX2_awayAgain_7 rfl (lv_at hl 1 rfl) ?_
        refine lv_iload_n hx hb dX2_awayAgain_8 rfl (lv_at hl 0 rfl) ?_
        refine callVi (As := [.int (nI 3)]) (rest := []) (wc := (PW G ph pd nr nc pL pG pB pk pa pt pm)) (wr := ([] : va_W)) ⟨hx, hb, hml, hown, hts⟩ (m_X2_isIn__3 l G ph pd nr nc pL pG pB pk pa pt pm (by first | assumption | omega) (by first | assumption | omega) (by first | assumption | omega)) (cwV 1 hts (lw_V q1051 q1053 qs12 q89 q1054) rfl rfl rfl (by decide +kernel) ⟨Nat.le_of_ble_eq_true rfl, Nat.le_of_ble_eq_true rfl⟩) hK hZ hA hP hD hS [0, 1, 2, 3, 4, 5] [] rfl rfl (by decide) (by decide) (by decide) 0 1 rfl rfl rfl hl.1 (Nat.le_of_ble_eq_true rfl) ⟨Nat.le_of_ble_eq_true rfl, Nat.le_of_ble_eq_true rfl⟩ rfl dX2_awayAgain_9 (fun r9 u9 H locs hw9 hP hD hS => ?_)
        subst hw9
        have hP : va_P G.1 CL (PW G ph pd nr nc pL pG pB pk pa pt pm) _ := hP
        have hD : va_D A (PW G ph pd nr nc pL pG pB pk pa pt pm) := hD
        refine b_if_eq (tgt := 17) hx hb dX2_awayAgain_12 (by decide) (fun c12_4 => ?_) (fun c12_4 => ?_)
        · skip
          refine lv_iinc (v := nI 4) (lv' := [(1, .int (nI 4)), (0, .ref ph)]) hx hb dX2_awayAgain_17 hl (k := 0) rfl (by decide) (by decide) rfl (fun ls hl => ?_)
          refine lv_goto (tgt := 2) hx hb dX2_awayAgain_20 (by decide) ?_
          refine lv_iload_n hx hb dX2_awayAgain_2 rfl (lv_at hl 0 rfl) ?_
          refine lv_iconst (v := nI 3) hx hb dX2_awayAgain_3 (by decide) ?_
          refine n_cmp_gt (tgt := 23) hx hb dX2_awayAgain_4 (by decide) (by decide) (by decide) (fun c4_5 => ?_) (fun c4_5 => ?_)
          rotate_left
          · exact absurd c4_5 (by decide)
          refine lv_iconst (v := (-1)) hx hb dX2_awayAgain_23 (by decide) ?_
          subst hQ
          exact ret_i hx hb hr hlk () (by rw [awN_4 c12 c12_2 c12_3 c12_4]; rfl) hP hD hS rfl dX2_awayAgain_24
        · skip
          refine lv_iload_n hx hb dX2_awayAgain_15 rfl (lv_at hl 0 rfl) ?_
          subst hQ
          exact ret_i hx hb hr hlk () (by rw [awN_3 c12 c12_2 c12_3 c12_4]; rfl) hP hD hS rfl dX2_awayAgain_16
      · skip
        refine lv_iload_n hx hb dX2_awayAgain_15 rfl (lv_at hl 0 rfl) ?_
        subst hQ
        exact ret_i hx hb hr hlk () (by rw [awN_2 c12 c12_2 c12_3]; rfl) hP hD hS rfl dX2_awayAgain_16
    · skip
      refine lv_iload_n hx hb dX2_awayAgain_15 rfl (lv_at hl 0 rfl) ?_
      subst hQ
      exact ret_i hx hb hr hlk () (by rw [awN_1 c12 c12_2]; rfl) hP hD hS rfl dX2_awayAgain_16
  · skip
    refine lv_iload_n hx hb dX2_awayAgain_15 rfl (lv_at hl 0 rfl) ?_
    subst hQ
    exact ret_i hx hb hr hlk () (by rw [awN_0 (by first | assumption | exact c12)]; rfl) hP hD hS rfl dX2_awayAgain_16
set_option maxHeartbeats 4000000 in
set_option maxRecDepth 100000 in
theorem m_X2_firstTurn__1 (l : Launch) (G : GG) (ph : Nat) (pd : Nat → Nat) (nr : Nat) (nc : Nat) (pL : Nat → Nat) (pG : Nat → Nat) (pB : Nat → Bool) (pk : Nat → Int32) (pa : Nat → Nat) (pt : Nat → Nat) (pm : Nat) (hd : 2 ≤ nr ∧ nr ≤ 3 ∧ 2 ≤ nc ∧ nc ≤ 3) (hL : ∀ i, pL i < 65536) (hG : ∀ i, pG i < 65536) : MM l G yX2_firstTurn cX2_firstTurn 4 (some .int) ⟨5, 0, 0, 107⟩ [.ref ph, .int (nI 1)] (PW G ph pd nr nc pL pG pB pk pa pt pm) (Qi_ G (fun (r : Int32) (_ : Unit) => r = (oN (2 * (nr + nc)) (ftN nr nc pB pL pG 0))) (fun (_ : Unit) => (PW G ph pd nr nc pL pG pB pk pa pt pm))) := by
  refine MM.of (by decide) (Nat.le_of_ble_eq_true rfl) ?_
  intro p e s m args below meth cd A C hini hA hK hZ hP hD ls hl
  generalize hQ : MQ below ((Qi_ G (fun (r : Int32) (_ : Unit) => r = (oN (2 * (nr + nc)) (ftN nr nc pB pL pG 0))) (fun (_ : Unit) => (PW G ph pd nr nc pL pG pB pk pa pt pm))) A) args s (⟨5, 0, 0, 107⟩ : Room).cells (⟨5, 0, 0, 107⟩ : Room).slots A = Q
  obtain ⟨hx, hb, hr, hts, hown, hlk, hml⟩ := C
  have hown : s.vm.findClass RX2 = some m.cls := hown
  have hS : va_S A s.heap s.heap [] := va_S.rf
  have hl : lv_has ls 4 [(0, .ref ph), (1, .int (nI 1))] := hl
  have hmu := dm_mul hd
  refine lv_iconst (v := nI 0) hx hb dX2_firstTurn_0 (by decide) ?_
  refine lv_istore_n (lv' := [(2, .int (nI 0)), (0, .ref ph), (1, .int (nI 1))]) hx hb dX2_firstTurn_1 rfl hl (by decide) rfl (fun ls hl => ?_)
  have lp2 : ∀ (f : Nat) (t : Nat), 2 * (nr + nc) - t < f → (t ≤ 2 * (nr + nc)) → (fx (fun t => !pB (t / 2) && rch nr nc pB pG 0 (tn nr nc t pL)) t = t) → ∀ (H : Heap) (locs : List Loc) (ls : Array Slot), va_P G.1 CL (PW G ph pd nr nc pL pG pB pk pa pt pm) H → va_D A (PW G ph pd nr nc pL pG pB pk pa pt pm) → va_S A s.heap H locs → lv_has ls 4 [(2, .int (nI t)), (0, .ref ph), (1, .int (nI 1))] → W p l e (⟨5, 0, 0, 107⟩ : Room) s m args below meth cd H locs 0 0 Q (F0 m 2 ls []) := by
    intro f
    induction f with
    | zero => intro t hf; exact absurd hf (Nat.not_lt_zero _)
    | succ f ih2 =>
      intro t hf ht hf H locs ls hP hD hS hl
      refine lv_iload_n hx hb dX2_firstTurn_2 rfl (lv_at hl 0 rfl) ?_
      refine lv_aload_n hx hb dX2_firstTurn_3 rfl (lv_at hl 1 rfl) ?_
      refine callVi (As := []) (rest := [.int (nI t)]) (wc := (PW G ph pd nr nc pL pG pB pk pa pt pm)) (wr := ([] : va_W)) ⟨hx, hb, hml, hown, hts⟩ (m_X2_turns l G ph pd nr nc pL pG pB pk pa pt pm ) (cwV 0 hts (lw_V q1022 q1023 q1024 q89 q1025) rfl rfl rfl (by decide +kernel) ⟨Nat.le_of_ble_eq_true rfl, Nat.le_of_ble_eq_true rfl⟩) hK hZ hA hP hD hS [0, 1, 2, 3, 4, 5] [] rfl rfl (by decide) (by decide) (by decide) 0 1 rfl rfl rfl hl.1 (Nat.le_of_ble_eq_true rfl) ⟨Nat.le_of_ble_eq_true rfl, Nat.le_of_ble_eq_true rfl⟩ rfl dX2_firstTurn_4 (fun r9 u9 H locs hw9 hP hD hS => ?_)
      subst hw9
      have hP : va_P G.1 CL (PW G ph pd nr nc pL pG pB pk pa pt pm) _ := hP
      have hD : va_D A (PW G ph pd nr nc pL pG pB pk pa pt pm) := hD
      refine n_cmp_ge (tgt := 67) hx hb dX2_firstTurn_7 (by decide) (by omega) (by omega) (fun c7 => ?_) (fun c7 => ?_)
      · skip
        refine lv_iconst (v := (-1)) hx hb dX2_firstTurn_67 (by decide) ?_
        subst hQ
        exact ret_i hx hb hr hlk () (by rw [ftN, show 2 * (nr + nc) = t by omega, hf, oN_ge (Nat.lt_irrefl _)]) hP hD hS rfl dX2_firstTurn_68
      · skip
        refine lv_aload_n hx hb dX2_firstTurn_10 rfl (lv_at hl 1 rfl) ?_
        refine lv_aload_n hx hb dX2_firstTurn_11 rfl (lv_at hl 1 rfl) ?_
        refine va_get (D := G.1) (ci := 1) (v := .ref (pd 0)) (C := RX2) (T := TX2) (N := 14) hx hb hts in_X2 hown hK hP 0 rfl rfl 2 (by decide) (hts _ q145) (fun _ h9 => h9) rfl dX2_firstTurn_12 ?_
        refine lv_iload_n hx hb dX2_firstTurn_15 rfl (lv_at hl 0 rfl) ?_
        refine callVv (As := [.ref (pd 0), .int (nI t)]) (rest := []) (wc := (PW G ph pd nr nc pL pG pB pk pa pt pm)) (wr := ([] : va_W)) ⟨hx, hb, hml, hown, hts⟩ (m_X2_turns_2__L l G ph pd nr nc pL pG pB pk pa pt pm t (by first | assumption | omega) (by first | assumption | omega) (by first | assumption | omega)) (cwV 2 hts (lw_V q1031 q1032 q1033 q89 q1034) rfl rfl rfl (by decide +kernel) ⟨Nat.le_of_ble_eq_true rfl, Nat.le_of_ble_eq_true rfl⟩) hK hZ hA hP hD hS [0, 1, 2, 3, 4, 5] [] rfl rfl (by decide) (by decide) (by decide) 0 1 rfl rfl rfl hl.1 (Nat.le_of_ble_eq_true rfl) ⟨Nat.le_of_ble_eq_true rfl, Nat.le_of_ble_eq_true rfl⟩ rfl dX2_firstTurn_16 (fun u9 H locs hw9 hP hD hS => ?_)
        have hP : va_P G.1 CL (PW G ph pd nr nc (tn nr nc t pL) pG pB pk pa pt pm) _ := hP
        have hD : va_D A (PW G ph pd nr nc (tn nr nc t pL) pG pB pk pa pt pm) := hD
        refine lv_aload_n hx hb dX2_firstTurn_19 rfl (lv_at hl 1 rfl) ?_
        refine lv_iload_n hx hb dX2_firstTurn_20 rfl (lv_at hl 0 rfl) ?_
        refine callVi (As := [.int (nI t)]) (rest := []) (wc := (PW G ph pd nr nc (tn nr nc t pL) pG pB pk pa pt pm)) (wr := ([] : va_W)) ⟨hx, hb, hml, hown, hts⟩ (m_X2_can l G ph pd nr nc (tn nr nc t pL) pG pB pk pa pt pm t (by first | assumption | omega) (by first | assumption | omega)) (cwV 1 hts (lw_V q1027 q1028 q1029 q89 q1030) rfl rfl rfl (by decide +kernel) ⟨Nat.le_of_ble_eq_true rfl, Nat.le_of_ble_eq_true rfl⟩) hK hZ hA hP hD hS [0, 1, 2, 3, 4, 5] [] rfl rfl (by decide) (by decide) (by decide) 0 1 rfl rfl rfl hl.1 (Nat.le_of_ble_eq_true rfl) ⟨Nat.le_of_ble_eq_true rfl, Nat.le_of_ble_eq_true rfl⟩ rfl dX2_firstTurn_21 (fun r9 u9 H locs hw9 hP hD hS => ?_)
        subst hw9
        have hP : va_P G.1 CL (PW G ph pd nr nc (tn nr nc t pL) pG pB pk pa pt pm) _ := hP
        have hD : va_D A (PW G ph pd nr nc (tn nr nc t pL) pG pB pk pa pt pm) := hD
        refine b_if_eq (tgt := 41) hx hb dX2_firstTurn_24 (by decide) (fun c24 => ?_) (fun c24 => ?_)
        · skip
          refine lv_iconst (v := nI 0) hx hb dX2_firstTurn_41 (by decide) ?_
          refine lv_istore_n (lv' := [(3, .int (nI 0)), (2, .int (nI t)), (0, .ref ph), (1, .int (nI 1))]) hx hb dX2_firstTurn_42 rfl hl (by decide) rfl (fun ls hl => ?_)
          refine lv_aload_n hx hb dX2_firstTurn_43 rfl (lv_at hl 2 rfl) ?_
          refine lv_aload_n hx hb dX2_firstTurn_44 rfl (lv_at hl 2 rfl) ?_
          refine va_get (D := G.1) (ci := 1) (v := .ref (pd 0)) (C := RX2) (T := TX2) (N := 14) hx hb hts in_X2 hown hK hP 0 rfl rfl 2 (by decide) (hts _ q145) (fun _ h9 => h9) rfl dX2_firstTurn_45 ?_
          refine lv_iload_n hx hb dX2_firstTurn_48 rfl (lv_at hl 1 rfl) ?_
          refine callSi (As := [.int (nI t)]) (rest := [.ref (pd 0), .ref ph]) (wc := ([] : va_W)) (wr := (PW G ph pd nr nc (tn nr nc t pL) pG pB pk pa pt pm)) ⟨hx, hb, hml, hown, hts⟩ (m_X2_back l G t (by first | assumption | omega)) (va_cwS 1 hts (lw_S q1035 q1036 q89 q1037) rfl rfl rfl (by decide +kernel) ⟨Nat.le_of_ble_eq_true rfl, Nat.le_of_ble_eq_true rfl⟩) hK hZ hA hP hD hS [] [0, 1, 2, 3, 4, 5] rfl rfl (by decide) (by decide) (by decide) rfl hl.1 (Nat.le_of_ble_eq_true rfl) ⟨Nat.le_of_ble_eq_true rfl, Nat.le_of_ble_eq_true rfl⟩ rfl dX2_firstTurn_49 (fun r9 u9 H locs hw9 hP hD hS => ?_)
          subst hw9
          have hP : va_P G.1 CL (PW G ph pd nr nc (tn nr nc t pL) pG pB pk pa pt pm) _ := hP
          have hD : va_D A (PW G ph pd nr nc (tn nr nc t pL) pG pB pk pa pt pm) := hD
          refine callVv (As := [.ref (pd 0), .int (nI (bk t))]) (rest := []) (wc := (PW G ph pd nr nc (tn nr nc t pL) pG pB pk pa pt pm)) (wr := ([] : va_W)) ⟨hx, hb, hml, hown, hts⟩ (m_X2_turns_2__L l G ph pd nr nc (tn nr nc t pL) pG pB pk pa pt pm (bk t) (by first | assumption | omega) (bk_lt hd (by omega)).1 (tn_lt hL)) (cwV 2 hts (lw_V q1031 q1032 q1033 q89 q1034) rfl rfl rfl (by decide +kernel) ⟨Nat.le_of_ble_eq_true rfl, Nat.le_of_ble_eq_true rfl⟩) hK hZ hA hP hD hS [0, 1, 2, 3, 4, 5] [] rfl rfl (by decide) (by decide) (by decide) 0 1 rfl rfl rfl hl.1 (Nat.le_of_ble_eq_true rfl) ⟨Nat.le_of_ble_eq_true rfl, Nat.le_of_ble_eq_true rfl⟩ rfl dX2_firstTurn_52 (fun u9 H locs hw9 hP hD hS => ?_)
          have hP : va_P G.1 CL (PW G ph pd nr nc (tn nr nc (bk t) (tn nr nc t pL)) pG pB pk pa pt pm) _ := hP
          have hD : va_D A (PW G ph pd nr nc (tn nr nc (bk t) (tn nr nc t pL)) pG pB pk pa pt pm) := hD
          rw [show (tn nr nc (bk t) (tn nr nc t pL)) = pL from (tn_bk hd (by omega) pL)] at hP hD
          refine lv_iload_n hx hb dX2_firstTurn_55 rfl (lv_at hl 0 rfl) ?_
          refine n_if_eq (tgt := 61) hx hb dX2_firstTurn_56 (by decide) (by decide) (fun c56 => ?_) (fun c56 => ?_)
          rotate_left
          · exact absurd c56 (by decide)
          refine lv_iinc (v := nI (t + 1)) (lv' := [(2, .int (nI (t + 1))), (3, .int (nI 0)), (0, .ref ph), (1, .int (nI 1))]) hx hb dX2_firstTurn_61 hl (k := 1) rfl (nI_add _ _) (by decide) rfl (fun ls hl => ?_)
          refine lv_goto (tgt := 2) hx hb dX2_firstTurn_64 (by decide) ?_
          exact ih2 (t + 1) (by omega) (by omega) (fx_up hf (by first | (simp [c24]; done) | (simp [c24, c34]; done) | (simp [c34]; done))) _ _ _ hP hD hS (lv_sub hl [0, 2, 3] rfl)
        · skip
          refine lv_aload_n hx hb dX2_firstTurn_27 rfl (lv_at hl 1 rfl) ?_
          refine lv_iload_n hx hb dX2_firstTurn_28 rfl (lv_at hl 2 rfl) ?_
          refine lv_iconst (v := nI 1) hx hb dX2_firstTurn_29 (by decide) ?_
          refine n_isub hx hb (by decide) dX2_firstTurn_30 ?_
          refine callVi (As := [.int (nI 0)]) (rest := []) (wc := (PW G ph pd nr nc (tn nr nc t pL) pG pB pk pa pt pm)) (wr := ([] : va_W)) ⟨hx, hb, hml, hown, hts⟩ (m_X2_isIn__0 l G ph pd nr nc (tn nr nc t pL) pG pB pk pa pt pm (by first | assumption | omega) (tn_lt hL) (by first | assumption | omega)) (cwV 1 hts (lw_V q1051 q1053 qs12 q89 q1054) rfl rfl rfl (by decide +kernel) ⟨Nat.le_of_ble_eq_true rfl, Nat.le_of_ble_eq_true rfl⟩) hK hZ hA hP hD hS [0, 1, 2, 3, 4, 5] [] rfl rfl (by decide) (by decide) (by decide) 0 1 rfl rfl rfl hl.1 (Nat.le_of_ble_eq_true rfl) ⟨Nat.le_of_ble_eq_true rfl, Nat.le_of_ble_eq_true rfl⟩ rfl dX2_firstTurn_31 (fun r9 u9 H locs hw9 hP hD hS => ?_)
          subst hw9
          have hP : va_P G.1 CL (PW G ph pd nr nc (tn nr nc t pL) pG pB pk pa pt pm) _ := hP
          have hD : va_D A (PW G ph pd nr nc (tn nr nc t pL) pG pB pk pa pt pm) := hD
          refine b_if_eq (tgt := 41) hx hb dX2_firstTurn_34 (by decide) (fun c34 => ?_) (fun c34 => ?_)
          · skip
            refine lv_iconst (v := nI 0) hx hb dX2_firstTurn_41 (by decide) ?_
            refine lv_istore_n (lv' := [(3, .int (nI 0)), (2, .int (nI t)), (0, .ref ph), (1, .int (nI 1))]) hx hb dX2_firstTurn_42 rfl hl (by decide) rfl (fun ls hl => ?_)
            refine lv_aload_n hx hb dX2_firstTurn_43 rfl (lv_at hl 2 rfl) ?_
            refine lv_aload_n hx hb dX2_firstTurn_44 rfl (lv_at hl 2 rfl) ?_
            refine va_get (D := G.1) (ci := 1) (v := .ref (pd 0)) (C := RX2) (T := TX2) (N := 14) hx hb hts in_X2 hown hK hP 0 rfl rfl 2 (by decide) (hts _ q145) (fun _ h9 => h9) rfl dX2_firstTurn_45 ?_
            refine lv_iload_n hx hb dX2_firstTurn_48 rfl (lv_at hl 1 rfl) ?_
            refine callSi (As := [.int (nI t)]) (rest := [.ref (pd 0), .ref ph]) (wc := ([] : va_W)) (wr := (PW G ph pd nr nc (tn nr nc t pL) pG pB pk pa pt pm)) ⟨hx, hb, hml, hown, hts⟩ (m_X2_back l G t (by first | assumption | omega)) (va_cwS 1 hts (lw_S q1035 q1036 q89 q1037) rfl rfl rfl (by decide +kernel) ⟨Nat.le_of_ble_eq_true rfl, Nat.le_of_ble_eq_true rfl⟩) hK hZ hA hP hD hS [] [0, 1, 2, 3, 4, 5] rfl rfl (by decide) (by decide) (by decide) rfl hl.1 (Nat.le_of_ble_eq_true rfl) ⟨Nat.le_of_ble_eq_true rfl, Nat.le_of_ble_eq_true rfl⟩ rfl dX2_firstTurn_49 (fun r9 u9 H locs hw9 hP hD hS => ?_)
            subst hw9
            have hP : va_P G.1 CL (PW G ph pd nr nc (tn nr nc t pL) pG pB pk pa pt pm) _ := hP
            have hD : va_D A (PW G ph pd nr nc (tn nr nc t pL) pG pB pk pa pt pm) := hD
            refine callVv (As := [.ref (pd 0), .int (nI (bk t))]) (rest := []) (wc := (PW G ph pd nr nc (tn nr nc t pL) pG pB pk pa pt pm)) (wr := ([] : va_W)) ⟨hx, hb, hml, hown, hts⟩ (m_X2_turns_2__L l G ph pd nr nc (tn nr nc t pL) pG pB pk pa pt pm (bk t) (by first | assumption | omega) (bk_lt hd (by omega)).1 (tn_lt hL)) (cwV 2 hts (lw_V q1031 q1032 q1033 q89 q1034) rfl rfl rfl (by decide +kernel) ⟨Nat.le_of_ble_eq_true rfl, Nat.le_of_ble_eq_true rfl⟩) hK hZ hA hP hD hS [0, 1, 2, 3, 4, 5] [] rfl rfl (by decide) (by decide) (by decide) 0 1 rfl rfl rfl hl.1 (Nat.le_of_ble_eq_true rfl) ⟨Nat.le_of_ble_eq_true rfl, Nat.le_of_ble_eq_true rfl⟩ rfl dX2_firstTurn_52 (fun u9 H locs hw9 hP hD hS => ?_)
            have hP : va_P G.1 CL (PW G ph pd nr nc (tn nr nc (bk t) (tn nr nc t pL)) pG pB pk pa pt pm) _ := hP
            have hD : va_D A (PW G ph pd nr nc (tn nr nc (bk t) (tn nr nc t pL)) pG pB pk pa pt pm) := hD
            rw [show (tn nr nc (bk t) (tn nr nc t pL)) = pL from (tn_bk hd (by omega) pL)] at hP hD
            refine lv_iload_n hx hb dX2_firstTurn_55 rfl (lv_at hl 0 rfl) ?_
            refine n_if_eq (tgt := 61) hx hb dX2_firstTurn_56 (by decide) (by decide) (fun c56 => ?_) (fun c56 => ?_)
            rotate_left
            · exact absurd c56 (by decide)
            refine lv_iinc (v := nI (t + 1)) (lv' := [(2, .int (nI (t + 1))), (3, .int (nI 0)), (0, .ref ph), (1, .int (nI 1))]) hx hb dX2_firstTurn_61 hl (k := 1) rfl (nI_add _ _) (by decide) rfl (fun ls hl => ?_)
            refine lv_goto (tgt := 2) hx hb dX2_firstTurn_64 (by decide) ?_
            exact ih2 (t + 1) (by omega) (by omega) (fx_up hf (by first | (simp [c24]; done) | (simp [c24, c34]; done) | (simp [c34]; done))) _ _ _ hP hD hS (lv_sub hl [0, 2, 3] rfl)
          · skip
            refine lv_iconst (v := nI 1) hx hb dX2_firstTurn_37 (by decide) ?_
            refine lv_goto (tgt := 42) hx hb dX2_firstTurn_38 (by decide) ?_
            refine lv_istore_n (lv' := [(3, .int (nI 1)), (2, .int (nI t)), (0, .ref ph), (1, .int (nI 1))]) hx hb dX2_firstTurn_42 rfl hl (by decide) rfl (fun ls hl => ?_)
            refine lv_aload_n hx hb dX2_firstTurn_43 rfl (lv_at hl 2 rfl) ?_
            refine lv_aload_n hx hb dX2_firstTurn_44 rfl (lv_at hl 2 rfl) ?_
            refine va_get (D := G.1) (ci := 1) (v := .ref (pd 0)) (C := RX2) (T := TX2) (N := 14) hx hb hts in_X2 hown hK hP 0 rfl rfl 2 (by decide) (hts _ q145) (fun _ h9 => h9) rfl dX2_firstTurn_45 ?_
            refine lv_iload_n hx hb dX2_firstTurn_48 rfl (lv_at hl 1 rfl) ?_
            refine callSi (As := [.int (nI t)]) (rest := [.ref (pd 0), .ref ph]) (wc := ([] : va_W)) (wr := (PW G ph pd nr nc (tn nr nc t pL) pG pB pk pa pt pm)) ⟨hx, hb, hml, hown, hts⟩ (m_X2_back l G t (by first | assumption | omega)) (va_cwS 1 hts (lw_S q1035 q1036 q89 q1037) rfl rfl rfl (by decide +kernel) ⟨Nat.le_of_ble_eq_true rfl, Nat.le_of_ble_eq_true rfl⟩) hK hZ hA hP hD hS [] [0, 1, 2, 3, 4, 5] rfl rfl (by decide) (by decide) (by decide) rfl hl.1 (Nat.le_of_ble_eq_true rfl) ⟨Nat.le_of_ble_eq_true rfl, Nat.le_of_ble_eq_true rfl⟩ rfl dX2_firstTurn_49 (fun r9 u9 H locs hw9 hP hD hS => ?_)
            subst hw9
            have hP : va_P G.1 CL (PW G ph pd nr nc (tn nr nc t pL) pG pB pk pa pt pm) _ := hP
            have hD : va_D A (PW G ph pd nr nc (tn nr nc t pL) pG pB pk pa pt pm) := hD
            refine callVv (As := [.ref (pd 0), .int (nI (bk t))]) (rest := []) (wc := (PW G ph pd nr nc (tn nr nc t pL) pG pB pk pa pt pm)) (wr := ([] : va_W)) ⟨hx, hb, hml, hown, hts⟩ (m_X2_turns_2__L l G ph pd nr nc (tn nr nc t pL) pG pB pk pa pt pm (bk t) (by first | assumption | omega) (bk_lt hd (by omega)).1 (tn_lt hL)) (cwV 2 hts (lw_V q1031 q1032 q1033 q89 q1034) rfl rfl rfl (by decide +kernel) ⟨Nat.le_of_ble_eq_true rfl, Nat.le_of_ble_eq_true rfl⟩) hK hZ hA hP hD hS [0, 1, 2, 3, 4, 5] [] rfl rfl (by decide) (by decide) (by decide) 0 1 rfl rfl rfl hl.1 (Nat.le_of_ble_eq_true rfl) ⟨Nat.le_of_ble_eq_true rfl, Nat.le_of_ble_eq_true rfl⟩ rfl dX2_firstTurn_52 (fun u9 H locs hw9 hP hD hS => ?_)
            have hP : va_P G.1 CL (PW G ph pd nr nc (tn nr nc (bk t) (tn nr nc t pL)) pG pB pk pa pt pm) _ := hP
            have hD : va_D A (PW G ph pd nr nc (tn nr nc (bk t) (tn nr nc t pL)) pG pB pk pa pt pm) := hD
            rw [show (tn nr nc (bk t) (tn nr nc t pL)) = pL from (tn_bk hd (by omega) pL)] at hP hD
            refine lv_iload_n hx hb dX2_firstTurn_55 rfl (lv_at hl 0 rfl) ?_
            refine n_if_eq (tgt := 61) hx hb dX2_firstTurn_56 (by decide) (by decide) (fun c56 => ?_) (fun c56 => ?_)
            · exact absurd c56 (by decide)
            refine lv_iload_n hx hb dX2_firstTurn_59 rfl (lv_at hl 1 rfl) ?_
            subst hQ
            exact ret_i hx hb hr hlk () (by rw [ftN, fx_lt (by omega) hf (by simp only [c24, c34]; rfl), oN_lt (by omega)]) hP hD hS rfl dX2_firstTurn_60
  exact lp2 _ 0 (Nat.lt_succ_self _) (by omega) rfl _ _ _ hP hD hS (lv_sub hl [0, 1, 2] rfl)
set_option maxHeartbeats 4000000 in
set_option maxRecDepth 100000 in
theorem m_X2_firstTurn__2 (l : Launch) (G : GG) (ph : Nat) (pd : Nat → Nat) (nr : Nat) (nc : Nat) (pL : Nat → Nat) (pG : Nat → Nat) (pB : Nat → Bool) (pk : Nat → Int32) (pa : Nat → Nat) (pt : Nat → Nat) (pm : Nat) (hd : 2 ≤ nr ∧ nr ≤ 3 ∧ 2 ≤ nc ∧ nc ≤ 3) (hL : ∀ i, pL i < 65536) (hG : ∀ i, pG i < 65536) : MM l G yX2_firstTurn cX2_firstTurn 4 (some .int) ⟨6, 0, 0, 130⟩ [.ref ph, .int (nI 2)] (PW G ph pd nr nc pL pG pB pk pa pt pm) (Qi_ G (fun (r : Int32) (_ : Unit) => r = (oN (2 * (nr + nc)) (ftN nr nc pB pL pG 1))) (fun (_ : Unit) => (PW G ph pd nr nc pL pG pB pk pa pt pm))) := by
  refine MM.of (by decide) (Nat.le_of_ble_eq_true rfl) ?_
  intro p e s m args below meth cd A C hini hA hK hZ hP hD ls hl
  generalize hQ : MQ below ((Qi_ G (fun (r : Int32) (_ : Unit) => r = (oN (2 * (nr + nc)) (ftN nr nc pB pL pG 1))) (fun (_ : Unit) => (PW G ph pd nr nc pL pG pB pk pa pt pm))) A) args s (⟨6, 0, 0, 130⟩ : Room).cells (⟨6, 0, 0, 130⟩ : Room).slots A = Q
  obtain ⟨hx, hb, hr, hts, hown, hlk, hml⟩ := C
  have hown : s.vm.findClass RX2 = some m.cls := hown
  have hS : va_S A s.heap s.heap [] := va_S.rf
  have hl : lv_has ls 4 [(0, .ref ph), (1, .int (nI 2))] := hl
  have hmu := dm_mul hd
  refine lv_iconst (v := nI 0) hx hb dX2_firstTurn_0 (by decide) ?_
  refine lv_istore_n (lv' := [(2, .int (nI 0)), (0, .ref ph), (1, .int (nI 2))]) hx hb dX2_firstTurn_1 rfl hl (by decide) rfl (fun ls hl => ?_)
  have lp2 : ∀ (f : Nat) (t : Nat), 2 * (nr + nc) - t < f → (t ≤ 2 * (nr + nc)) → (fx (fun t => !pB (t / 2) && rch nr nc pB pG 1 (tn nr nc t pL)) t = t) → ∀ (H : Heap) (locs : List Loc) (ls : Array Slot), va_P G.1 CL (PW G ph pd nr nc pL pG pB pk pa pt pm) H → va_D A (PW G ph pd nr nc pL pG pB pk pa pt pm) → va_S A s.heap H locs → lv_has ls 4 [(2, .int (nI t)), (0, .ref ph), (1, .int (nI 2))] → W p l e (⟨6, 0, 0, 130⟩ : Room) s m args below meth cd H locs 0 0 Q (F0 m 2 ls []) := by
    intro f
    induction f with
    | zero => intro t hf; exact absurd hf (Nat.not_lt_zero _)
    | succ f ih2 =>
      intro t hf ht hf H locs ls hP hD hS hl
      refine lv_iload_n hx hb dX2_firstTurn_2 rfl (lv_at hl 0 rfl) ?_
      refine lv_aload_n hx hb dX2_firstTurn_3 rfl (lv_at hl 1 rfl) ?_
      refine callVi (As := []) (rest := [.int (nI t)]) (wc := (PW G ph pd nr nc pL pG pB pk pa pt pm)) (wr := ([] : va_W)) ⟨hx, hb, hml, hown, hts⟩ (m_X2_turns l G ph pd nr nc pL pG pB pk pa pt pm ) (cwV 0 hts (lw_V q1022 q1023 q1024 q89 q1025) rfl rfl rfl (by decide +kernel) ⟨Nat.le_of_ble_eq_true rfl, Nat.le_of_ble_eq_true rfl⟩) hK hZ hA hP hD hS [0, 1, 2, 3, 4, 5] [] rfl rfl (by decide) (by decide) (by decide) 0 1 rfl rfl rfl hl.1 (Nat.le_of_ble_eq_true rfl) ⟨Nat.le_of_ble_eq_true rfl, Nat.le_of_ble_eq_true rfl⟩ rfl dX2_firstTurn_4 (fun r9 u9 H locs hw9 hP hD hS => ?_)
      subst hw9
      have hP : va_P G.1 CL (PW G ph pd nr nc pL pG pB pk pa pt pm) _ := hP
      have hD : va_D A (PW G ph pd nr nc pL pG pB pk pa pt pm) := hD
      refine n_cmp_ge (tgt := 67) hx hb dX2_firstTurn_7 (by decide) (by omega) (by omega) (fun c7 => ?_) (fun c7 => ?_)
      · skip
        refine lv_iconst (v := (-1)) hx hb dX2_firstTurn_67 (by decide) ?_
        subst hQ
        exact ret_i hx hb hr hlk () (by rw [ftN, show 2 * (nr + nc) = t by omega, hf, oN_ge (Nat.lt_irrefl _)]) hP hD hS rfl dX2_firstTurn_68
      · skip
        refine lv_aload_n hx hb dX2_firstTurn_10 rfl (lv_at hl 1 rfl) ?_
        refine lv_aload_n hx hb dX2_firstTurn_11 rfl (lv_at hl 1 rfl) ?_
        refine va_get (D := G.1) (ci := 1) (v := .ref (pd 0)) (C := RX2) (T := TX2) (N := 14) hx hb hts in_X2 hown hK hP 0 rfl rfl 2 (by decide) (hts _ q145) (fun _ h9 => h9) rfl dX2_firstTurn_12 ?_
        refine lv_iload_n hx hb dX2_firstTurn_15 rfl (lv_at hl 0 rfl) ?_
        refine callVv (As := [.ref (pd 0), .int (nI t)]) (rest := []) (wc := (PW G ph pd nr nc pL pG pB pk pa pt pm)) (wr := ([] : va_W)) ⟨hx, hb, hml, hown, hts⟩ (m_X2_turns_2__L l G ph pd nr nc pL pG pB pk pa pt pm t (by first | assumption | omega) (by first | assumption | omega) (by first | assumption | omega)) (cwV 2 hts (lw_V q1031 q1032 q1033 q89 q1034) rfl rfl rfl (by decide +kernel) ⟨Nat.le_of_ble_eq_true rfl, Nat.le_of_ble_eq_true rfl⟩) hK hZ hA hP hD hS [0, 1, 2, 3, 4, 5] [] rfl rfl (by decide) (by decide) (by decide) 0 1 rfl rfl rfl hl.1 (Nat.le_of_ble_eq_true rfl) ⟨Nat.le_of_ble_eq_true rfl, Nat.le_of_ble_eq_true rfl⟩ rfl dX2_firstTurn_16 (fun u9 H locs hw9 hP hD hS => ?_)
        have hP : va_P G.1 CL (PW G ph pd nr nc (tn nr nc t pL) pG pB pk pa pt pm) _ := hP
        have hD : va_D A (PW G ph pd nr nc (tn nr nc t pL) pG pB pk pa pt pm) := hD
        refine lv_aload_n hx hb dX2_firstTurn_19 rfl (lv_at hl 1 rfl) ?_
        refine lv_iload_n hx hb dX2_firstTurn_20 rfl (lv_at hl 0 rfl) ?_
        refine callVi (As := [.int (nI t)]) (rest := []) (wc := (PW G ph pd nr nc (tn nr nc t pL) pG pB pk pa pt pm)) (wr := ([] : va_W)) ⟨hx, hb, hml, hown, hts⟩ (m_X2_can l G ph pd nr nc (tn nr nc t pL) pG pB pk pa pt pm t (by first | assumption | omega) (by first | assumption | omega)) (cwV 1 hts (lw_V q1027 q1028 q1029 q89 q1030) rfl rfl rfl (by decide +kernel) ⟨Nat.le_of_ble_eq_true rfl, Nat.le_of_ble_eq_true rfl⟩) hK hZ hA hP hD hS [0, 1, 2, 3, 4, 5] [] rfl rfl (by decide) (by decide) (by decide) 0 1 rfl rfl rfl hl.1 (Nat.le_of_ble_eq_true rfl) ⟨Nat.le_of_ble_eq_true rfl, Nat.le_of_ble_eq_true rfl⟩ rfl dX2_firstTurn_21 (fun r9 u9 H locs hw9 hP hD hS => ?_)
        subst hw9
        have hP : va_P G.1 CL (PW G ph pd nr nc (tn nr nc t pL) pG pB pk pa pt pm) _ := hP
        have hD : va_D A (PW G ph pd nr nc (tn nr nc t pL) pG pB pk pa pt pm) := hD
        refine b_if_eq (tgt := 41) hx hb dX2_firstTurn_24 (by decide) (fun c24 => ?_) (fun c24 => ?_)
        · skip
          refine lv_iconst (v := nI 0) hx hb dX2_firstTurn_41 (by decide) ?_
          refine lv_istore_n (lv' := [(3, .int (nI 0)), (2, .int (nI t)), (0, .ref ph), (1, .int (nI 2))]) hx hb dX2_firstTurn_42 rfl hl (by decide) rfl (fun ls hl => ?_)
          refine lv_aload_n hx hb dX2_firstTurn_43 rfl (lv_at hl 2 rfl) ?_
          refine lv_aload_n hx hb dX2_firstTurn_44 rfl (lv_at hl 2 rfl) ?_
          refine va_get (D := G.1) (ci := 1) (v := .ref (pd 0)) (C := RX2) (T := TX2) (N := 14) hx hb hts in_X2 hown hK hP 0 rfl rfl 2 (by decide) (hts _ q145) (fun _ h9 => h9) rfl dX2_firstTurn_45 ?_
          refine lv_iload_n hx hb dX2_firstTurn_48 rfl (lv_at hl 1 rfl) ?_
          refine callSi (As := [.int (nI t)]) (rest := [.ref (pd 0), .ref ph]) (wc := ([] : va_W)) (wr := (PW G ph pd nr nc (tn nr nc t pL) pG pB pk pa pt pm)) ⟨hx, hb, hml, hown, hts⟩ (m_X2_back l G t (by first | assumption | omega)) (va_cwS 1 hts (lw_S q1035 q1036 q89 q1037) rfl rfl rfl (by decide +kernel) ⟨Nat.le_of_ble_eq_true rfl, Nat.le_of_ble_eq_true rfl⟩) hK hZ hA hP hD hS [] [0, 1, 2, 3, 4, 5] rfl rfl (by decide) (by decide) (by decide) rfl hl.1 (Nat.le_of_ble_eq_true rfl) ⟨Nat.le_of_ble_eq_true rfl, Nat.le_of_ble_eq_true rfl⟩ rfl dX2_firstTurn_49 (fun r9 u9 H locs hw9 hP hD hS => ?_)
          subst hw9
          have hP : va_P G.1 CL (PW G ph pd nr nc (tn nr nc t pL) pG pB pk pa pt pm) _ := hP
          have hD : va_D A (PW G ph pd nr nc (tn nr nc t pL) pG pB pk pa pt pm) := hD
          refine callVv (As := [.ref (pd 0), .int (nI (bk t))]) (rest := []) (wc := (PW G ph pd nr nc (tn nr nc t pL) pG pB pk pa pt pm)) (wr := ([] : va_W)) ⟨hx, hb, hml, hown, hts⟩ (m_X2_turns_2__L l G ph pd nr nc (tn nr nc t pL) pG pB pk pa pt pm (bk t) (by first | assumption | omega) (bk_lt hd (by omega)).1 (tn_lt hL)) (cwV 2 hts (lw_V q1031 q1032 q1033 q89 q1034) rfl rfl rfl (by decide +kernel) ⟨Nat.le_of_ble_eq_true rfl, Nat.le_of_ble_eq_true rfl⟩) hK hZ hA hP hD hS [0, 1, 2, 3, 4, 5] [] rfl rfl (by decide) (by decide) (by decide) 0 1 rfl rfl rfl hl.1 (Nat.le_of_ble_eq_true rfl) ⟨Nat.le_of_ble_eq_true rfl, Nat.le_of_ble_eq_true rfl⟩ rfl dX2_firstTurn_52 (fun u9 H locs hw9 hP hD hS => ?_)
          have hP : va_P G.1 CL (PW G ph pd nr nc (tn nr nc (bk t) (tn nr nc t pL)) pG pB pk pa pt pm) _ := hP
          have hD : va_D A (PW G ph pd nr nc (tn nr nc (bk t) (tn nr nc t pL)) pG pB pk pa pt pm) := hD
          rw [show (tn nr nc (bk t) (tn nr nc t pL)) = pL from (tn_bk hd (by omega) pL)] at hP hD
          refine lv_iload_n hx hb dX2_firstTurn_55 rfl (lv_at hl 0 rfl) ?_
          refine n_if_eq (tgt := 61) hx hb dX2_firstTurn_56 (by decide) (by decide) (fun c56 => ?_) (fun c56 => ?_)
          rotate_left
          · exact absurd c56 (by decide)
          refine lv_iinc (v := nI (t + 1)) (lv' := [(2, .int (nI (t + 1))), (3, .int (nI 0)), (0, .ref ph), (1, .int (nI 2))]) hx hb dX2_firstTurn_61 hl (k := 1) rfl (nI_add _ _) (by decide) rfl (fun ls hl => ?_)
          refine lv_goto (tgt := 2) hx hb dX2_firstTurn_64 (by decide) ?_
          exact ih2 (t + 1) (by omega) (by omega) (fx_up hf (by first | (simp [c24]; done) | (simp [c24, c34]; done) | (simp [c34]; done))) _ _ _ hP hD hS (lv_sub hl [0, 2, 3] rfl)
        · skip
          refine lv_aload_n hx hb dX2_firstTurn_27 rfl (lv_at hl 1 rfl) ?_
          refine lv_iload_n hx hb dX2_firstTurn_28 rfl (lv_at hl 2 rfl) ?_
          refine lv_iconst (v := nI 1) hx hb dX2_firstTurn_29 (by decide) ?_
          refine n_isub hx hb (by decide) dX2_firstTurn_30 ?_
          refine callVi (As := [.int (nI 1)]) (rest := []) (wc := (PW G ph pd nr nc (tn nr nc t pL) pG pB pk pa pt pm)) (wr := ([] : va_W)) ⟨hx, hb, hml, hown, hts⟩ (m_X2_isIn__1 l G ph pd nr nc (tn nr nc t pL) pG pB pk pa pt pm (by first | assumption | omega) (tn_lt hL) (by first | assumption | omega)) (cwV 1 hts (lw_V q1051 q1053 qs12 q89 q1054) rfl rfl rfl (by decide +kernel) ⟨Nat.le_of_ble_eq_true rfl, Nat.le_of_ble_eq_true rfl⟩) hK hZ hA hP hD hS [0, 1, 2, 3, 4, 5] [] rfl rfl (by decide) (by decide) (by decide) 0 1 rfl rfl rfl hl.1 (Nat.le_of_ble_eq_true rfl) ⟨Nat.le_of_ble_eq_true rfl, Nat.le_of_ble_eq_true rfl⟩ rfl dX2_firstTurn_31 (fun r9 u9 H locs hw9 hP hD hS => ?_)
          subst hw9
          have hP : va_P G.1 CL (PW G ph pd nr nc (tn nr nc t pL) pG pB pk pa pt pm) _ := hP
          have hD : va_D A (PW G ph pd nr nc (tn nr nc t pL) pG pB pk pa pt pm) := hD
          refine b_if_eq (tgt := 41) hx hb dX2_firstTurn_34 (by decide) (fun c34 => ?_) (fun c34 => ?_)
          · skip
            refine lv_iconst (v := nI 0) hx hb dX2_firstTurn_41 (by decide) ?_
            refine lv_istore_n (lv' := [(3, .int (nI 0)), (2, .int (nI t)), (0, .ref ph), (1, .int (nI 2))]) hx hb dX2_firstTurn_42 rfl hl (by decide) rfl (fun ls hl => ?_)
            refine lv_aload_n hx hb dX2_firstTurn_43 rfl (lv_at hl 2 rfl) ?_
            refine lv_aload_n hx hb dX2_firstTurn_44 rfl (lv_at hl 2 rfl) ?_
            refine va_get (D := G.1) (ci := 1) (v := .ref (pd 0)) (C := RX2) (T := TX2) (N := 14) hx hb hts in_X2 hown hK hP 0 rfl rfl 2 (by decide) (hts _ q145) (fun _ h9 => h9) rfl dX2_firstTurn_45 ?_
            refine lv_iload_n hx hb dX2_firstTurn_48 rfl (lv_at hl 1 rfl) ?_
            refine callSi (As := [.int (nI t)]) (rest := [.ref (pd 0), .ref ph]) (wc := ([] : va_W)) (wr := (PW G ph pd nr nc (tn nr nc t pL) pG pB pk pa pt pm)) ⟨hx, hb, hml, hown, hts⟩ (m_X2_back l G t (by first | assumption | omega)) (va_cwS 1 hts (lw_S q1035 q1036 q89 q1037) rfl rfl rfl (by decide +kernel) ⟨Nat.le_of_ble_eq_true rfl, Nat.le_of_ble_eq_true rfl⟩) hK hZ hA hP hD hS [] [0, 1, 2, 3, 4, 5] rfl rfl (by decide) (by decide) (by decide) rfl hl.1 (Nat.le_of_ble_eq_true rfl) ⟨Nat.le_of_ble_eq_true rfl, Nat.le_of_ble_eq_true rfl⟩ rfl dX2_firstTurn_49 (fun r9 u9 H locs hw9 hP hD hS => ?_)
            subst hw9
            have hP : va_P G.1 CL (PW G ph pd nr nc (tn nr nc t pL) pG pB pk pa pt pm) _ := hP
            have hD : va_D A (PW G ph pd nr nc (tn nr nc t pL) pG pB pk pa pt pm) := hD
            refine callVv (As := [.ref (pd 0), .int (nI (bk t))]) (rest := []) (wc := (PW G ph pd nr nc (tn nr nc t pL) pG pB pk pa pt pm)) (wr := ([] : va_W)) ⟨hx, hb, hml, hown, hts⟩ (m_X2_turns_2__L l G ph pd nr nc (tn nr nc t pL) pG pB pk pa pt pm (bk t) (by first | assumption | omega) (bk_lt hd (by omega)).1 (tn_lt hL)) (cwV 2 hts (lw_V q1031 q1032 q1033 q89 q1034) rfl rfl rfl (by decide +kernel) ⟨Nat.le_of_ble_eq_true rfl, Nat.le_of_ble_eq_true rfl⟩) hK hZ hA hP hD hS [0, 1, 2, 3, 4, 5] [] rfl rfl (by decide) (by decide) (by decide) 0 1 rfl rfl rfl hl.1 (Nat.le_of_ble_eq_true rfl) ⟨Nat.le_of_ble_eq_true rfl, Nat.le_of_ble_eq_true rfl⟩ rfl dX2_firstTurn_52 (fun u9 H locs hw9 hP hD hS => ?_)
            have hP : va_P G.1 CL (PW G ph pd nr nc (tn nr nc (bk t) (tn nr nc t pL)) pG pB pk pa pt pm) _ := hP
            have hD : va_D A (PW G ph pd nr nc (tn nr nc (bk t) (tn nr nc t pL)) pG pB pk pa pt pm) := hD
            rw [show (tn nr nc (bk t) (tn nr nc t pL)) = pL from (tn_bk hd (by omega) pL)] at hP hD
            refine lv_iload_n hx hb dX2_firstTurn_55 rfl (lv_at hl 0 rfl) ?_
            refine n_if_eq (tgt := 61) hx hb dX2_firstTurn_56 (by decide) (by decide) (fun c56 => ?_) (fun c56 => ?_)
            rotate_left
            · exact absurd c56 (by decide)
            refine lv_iinc (v := nI (t + 1)) (lv' := [(2, .int (nI (t + 1))), (3, .int (nI 0)), (0, .ref ph), (1, .int (nI 2))]) hx hb dX2_firstTurn_61 hl (k := 1) rfl (nI_add _ _) (by decide) rfl (fun ls hl => ?_)
            refine lv_goto (tgt := 2) hx hb dX2_firstTurn_64 (by decide) ?_
            exact ih2 (t + 1) (by omega) (by omega) (fx_up hf (by first | (simp [c24]; done) | (simp [c24, c34]; done) | (simp [c34]; done))) _ _ _ hP hD hS (lv_sub hl [0, 2, 3] rfl)
          · skip
            refine lv_iconst (v := nI 1) hx hb dX2_firstTurn_37 (by decide) ?_
            refine lv_goto (tgt := 42) hx hb dX2_firstTurn_38 (by decide) ?_
            refine lv_istore_n (lv' := [(3, .int (nI 1)), (2, .int (nI t)), (0, .ref ph), (1, .int (nI 2))]) hx hb dX2_firstTurn_42 rfl hl (by decide) rfl (fun ls hl => ?_)
            refine lv_aload_n hx hb dX2_firstTurn_43 rfl (lv_at hl 2 rfl) ?_
            refine lv_aload_n hx hb dX2_firstTurn_44 rfl (lv_at hl 2 rfl) ?_
            refine va_get (D := G.1) (ci := 1) (v := .ref (pd 0)) (C := RX2) (T := TX2) (N := 14) hx hb hts in_X2 hown hK hP 0 rfl rfl 2 (by decide) (hts _ q145) (fun _ h9 => h9) rfl dX2_firstTurn_45 ?_
            refine lv_iload_n hx hb dX2_firstTurn_48 rfl (lv_at hl 1 rfl) ?_
            refine callSi (As := [.int (nI t)]) (rest := [.ref (pd 0), .ref ph]) (wc := ([] : va_W)) (wr := (PW G ph pd nr nc (tn nr nc t pL) pG pB pk pa pt pm)) ⟨hx, hb, hml, hown, hts⟩ (m_X2_back l G t (by first | assumption | omega)) (va_cwS 1 hts (lw_S q1035 q1036 q89 q1037) rfl rfl rfl (by decide +kernel) ⟨Nat.le_of_ble_eq_true rfl, Nat.le_of_ble_eq_true rfl⟩) hK hZ hA hP hD hS [] [0, 1, 2, 3, 4, 5] rfl rfl (by decide) (by decide) (by decide) rfl hl.1 (Nat.le_of_ble_eq_true rfl) ⟨Nat.le_of_ble_eq_true rfl, Nat.le_of_ble_eq_true rfl⟩ rfl dX2_firstTurn_49 (fun r9 u9 H locs hw9 hP hD hS => ?_)
            subst hw9
            have hP : va_P G.1 CL (PW G ph pd nr nc (tn nr nc t pL) pG pB pk pa pt pm) _ := hP
            have hD : va_D A (PW G ph pd nr nc (tn nr nc t pL) pG pB pk pa pt pm) := hD
            refine callVv (As := [.ref (pd 0), .int (nI (bk t))]) (rest := []) (wc := (PW G ph pd nr nc (tn nr nc t pL) pG pB pk pa pt pm)) (wr := ([] : va_W)) ⟨hx, hb, hml, hown, hts⟩ (m_X2_turns_2__L l G ph pd nr nc (tn nr nc t pL) pG pB pk pa pt pm (bk t) (by first | assumption | omega) (bk_lt hd (by omega)).1 (tn_lt hL)) (cwV 2 hts (lw_V q1031 q1032 q1033 q89 q1034) rfl rfl rfl (by decide +kernel) ⟨Nat.le_of_ble_eq_true rfl, Nat.le_of_ble_eq_true rfl⟩) hK hZ hA hP hD hS [0, 1, 2, 3, 4, 5] [] rfl rfl (by decide) (by decide) (by decide) 0 1 rfl rfl rfl hl.1 (Nat.le_of_ble_eq_true rfl) ⟨Nat.le_of_ble_eq_true rfl, Nat.le_of_ble_eq_true rfl⟩ rfl dX2_firstTurn_52 (fun u9 H locs hw9 hP hD hS => ?_)
            have hP : va_P G.1 CL (PW G ph pd nr nc (tn nr nc (bk t) (tn nr nc t pL)) pG pB pk pa pt pm) _ := hP
            have hD : va_D A (PW G ph pd nr nc (tn nr nc (bk t) (tn nr nc t pL)) pG pB pk pa pt pm) := hD
            rw [show (tn nr nc (bk t) (tn nr nc t pL)) = pL from (tn_bk hd (by omega) pL)] at hP hD
            refine lv_iload_n hx hb dX2_firstTurn_55 rfl (lv_at hl 0 rfl) ?_
            refine n_if_eq (tgt := 61) hx hb dX2_firstTurn_56 (by decide) (by decide) (fun c56 => ?_) (fun c56 => ?_)
            · exact absurd c56 (by decide)
            refine lv_iload_n hx hb dX2_firstTurn_59 rfl (lv_at hl 1 rfl) ?_
            subst hQ
            exact ret_i hx hb hr hlk () (by rw [ftN, fx_lt (by omega) hf (by simp only [c24, c34]; rfl), oN_lt (by omega)]) hP hD hS rfl dX2_firstTurn_60
  exact lp2 _ 0 (Nat.lt_succ_self _) (by omega) rfl _ _ _ hP hD hS (lv_sub hl [0, 1, 2] rfl)
set_option maxHeartbeats 4000000 in
set_option maxRecDepth 100000 in
theorem m_X2_firstTurn__3 (l : Launch) (G : GG) (ph : Nat) (pd : Nat → Nat) (nr : Nat) (nc : Nat) (pL : Nat → Nat) (pG : Nat → Nat) (pB : Nat → Bool) (pk : Nat → Int32) (pa : Nat → Nat) (pt : Nat → Nat) (pm : Nat) (hd : 2 ≤ nr ∧ nr ≤ 3 ∧ 2 ≤ nc ∧ nc ≤ 3) (hL : ∀ i, pL i < 65536) (hG : ∀ i, pG i < 65536) : MM l G yX2_firstTurn cX2_firstTurn 4 (some .int) ⟨7, 0, 0, 153⟩ [.ref ph, .int (nI 3)] (PW G ph pd nr nc pL pG pB pk pa pt pm) (Qi_ G (fun (r : Int32) (_ : Unit) => r = (oN (2 * (nr + nc)) (ftN nr nc pB pL pG 2))) (fun (_ : Unit) => (PW G ph pd nr nc pL pG pB pk pa pt pm))) := by
  refine MM.of (by decide) (Nat.le_of_ble_eq_true rfl) ?_
  intro p e s m args below meth cd A C hini hA hK hZ hP hD ls hl
  generalize hQ : MQ below ((Qi_ G (fun (r : Int32) (_ : Unit) => r = (oN (2 * (nr + nc)) (ftN nr nc pB pL pG 2))) (fun (_ : Unit) => (PW G ph pd nr nc pL pG pB pk pa pt pm))) A) args s (⟨7, 0, 0, 153⟩ : Room).cells (⟨7, 0, 0, 153⟩ : Room).slots A = Q
  obtain ⟨hx, hb, hr, hts, hown, hlk, hml⟩ := C
  have hown : s.vm.findClass RX2 = some m.cls := hown
  have hS : va_S A s.heap s.heap [] := va_S.rf
  have hl : lv_has ls 4 [(0, .ref ph), (1, .int (nI 3))] := hl
  have hmu := dm_mul hd
  refine lv_iconst (v := nI 0) hx hb dX2_firstTurn_0 (by decide) ?_
  refine lv_istore_n (lv' := [(2, .int (nI 0)), (0, .ref ph), (1, .int (nI 3))]) hx hb dX2_firstTurn_1 rfl hl (by decide) rfl (fun ls hl => ?_)
  have lp2 : ∀ (f : Nat) (t : Nat), 2 * (nr + nc) - t < f → (t ≤ 2 * (nr + nc)) → (fx (fun t => !pB (t / 2) && rch nr nc pB pG 2 (tn nr nc t pL)) t = t) → ∀ (H : Heap) (locs : List Loc) (ls : Array Slot), va_P G.1 CL (PW G ph pd nr nc pL pG pB pk pa pt pm) H → va_D A (PW G ph pd nr nc pL pG pB pk pa pt pm) → va_S A s.heap H locs → lv_has ls 4 [(2, .int (nI t)), (0, .ref ph), (1, .int (nI 3))] → W p l e (⟨7, 0, 0, 153⟩ : Room) s m args below meth cd H locs 0 0 Q (F0 m 2 ls []) := by
    intro f
    induction f with
    | zero => intro t hf; exact absurd hf (Nat.not_lt_zero _)
    | succ f ih2 =>
      intro t hf ht hf H locs ls hP hD hS hl
      refine lv_iload_n hx hb dX2_firstTurn_2 rfl (lv_at hl 0 rfl) ?_
      refine lv_aload_n hx hb dX2_firstTurn_3 rfl (lv_at hl 1 rfl) ?_
      refine callVi (As := []) (rest := [.int (nI t)]) (wc := (PW G ph pd nr nc pL pG pB pk pa pt pm)) (wr := ([] : va_W)) ⟨hx, hb, hml, hown, hts⟩ (m_X2_turns l G ph pd nr nc pL pG pB pk pa pt pm ) (cwV 0 hts (lw_V q1022 q1023 q1024 q89 q1025) rfl rfl rfl (by decide +kernel) ⟨Nat.le_of_ble_eq_true rfl, Nat.le_of_ble_eq_true rfl⟩) hK hZ hA hP hD hS [0, 1, 2, 3, 4, 5] [] rfl rfl (by decide) (by decide) (by decide) 0 1 rfl rfl rfl hl.1 (Nat.le_of_ble_eq_true rfl) ⟨Nat.le_of_ble_eq_true rfl, Nat.le_of_ble_eq_true rfl⟩ rfl dX2_firstTurn_4 (fun r9 u9 H locs hw9 hP hD hS => ?_)
      subst hw9
      have hP : va_P G.1 CL (PW G ph pd nr nc pL pG pB pk pa pt pm) _ := hP
      have hD : va_D A (PW G ph pd nr nc pL pG pB pk pa pt pm) := hD
      refine n_cmp_ge (tgt := 67) hx hb dX2_firstTurn_7 (by decide) (by omega) (by omega) (fun c7 => ?_) (fun c7 => ?_)
      · skip
        refine lv_iconst (v := (-1)) hx hb dX2_firstTurn_67 (by decide) ?_
        subst hQ
        exact ret_i hx hb hr hlk () (by rw [ftN, show 2 * (nr + nc) = t by omega, hf, oN_ge (Nat.lt_irrefl _)]) hP hD hS rfl dX2_firstTurn_68
      · skip
        refine lv_aload_n hx hb dX2_firstTurn_10 rfl (lv_at hl 1 rfl) ?_
        refine lv_aload_n hx hb dX2_firstTurn_11 rfl (lv_at hl 1 rfl) ?_
        refine va_get (D := G.1) (ci := 1) (v := .ref (pd 0)) (C := RX2) (T := TX2) (N := 14) hx hb hts in_X2 hown hK hP 0 rfl rfl 2 (by decide) (hts _ q145) (fun _ h9 => h9) rfl dX2_firstTurn_12 ?_
        refine lv_iload_n hx hb dX2_firstTurn_15 rfl (lv_at hl 0 rfl) ?_
        refine callVv (As := [.ref (pd 0), .int (nI t)]) (rest := []) (wc := (PW G ph pd nr nc pL pG pB pk pa pt pm)) (wr := ([] : va_W)) ⟨hx, hb, hml, hown, hts⟩ (m_X2_turns_2__L l G ph pd nr nc pL pG pB pk pa pt pm t (by first | assumption | omega) (by first | assumption | omega) (by first | assumption | omega)) (cwV 2 hts (lw_V q1031 q1032 q1033 q89 q1034) rfl rfl rfl (by decide +kernel) ⟨Nat.le_of_ble_eq_true rfl, Nat.le_of_ble_eq_true rfl⟩) hK hZ hA hP hD hS [0, 1, 2, 3, 4, 5] [] rfl rfl (by decide) (by decide) (by decide) 0 1 rfl rfl rfl hl.1 (Nat.le_of_ble_eq_true rfl) ⟨Nat.le_of_ble_eq_true rfl, Nat.le_of_ble_eq_true rfl⟩ rfl dX2_firstTurn_16 (fun u9 H locs hw9 hP hD hS => ?_)
        have hP : va_P G.1 CL (PW G ph pd nr nc (tn nr nc t pL) pG pB pk pa pt pm) _ := hP
        have hD : va_D A (PW G ph pd nr nc (tn nr nc t pL) pG pB pk pa pt pm) := hD
        refine lv_aload_n hx hb dX2_firstTurn_19 rfl (lv_at hl 1 rfl) ?_
        refine lv_iload_n hx hb dX2_firstTurn_20 rfl (lv_at hl 0 rfl) ?_
        refine callVi (As := [.int (nI t)]) (rest := []) (wc := (PW G ph pd nr nc (tn nr nc t pL) pG pB pk pa pt pm)) (wr := ([] : va_W)) ⟨hx, hb, hml, hown, hts⟩ (m_X2_can l G ph pd nr nc (tn nr nc t pL) pG pB pk pa pt pm t (by first | assumption | omega) (by first | assumption | omega)) (cwV 1 hts (lw_V q1027 q1028 q1029 q89 q1030) rfl rfl rfl (by decide +kernel) ⟨Nat.le_of_ble_eq_true rfl, Nat.le_of_ble_eq_true rfl⟩) hK hZ hA hP hD hS [0, 1, 2, 3, 4, 5] [] rfl rfl (by decide) (by decide) (by decide) 0 1 rfl rfl rfl hl.1 (Nat.le_of_ble_eq_true rfl) ⟨Nat.le_of_ble_eq_true rfl, Nat.le_of_ble_eq_true rfl⟩ rfl dX2_firstTurn_21 (fun r9 u9 H locs hw9 hP hD hS => ?_)
        subst hw9
        have hP : va_P G.1 CL (PW G ph pd nr nc (tn nr nc t pL) pG pB pk pa pt pm) _ := hP
        have hD : va_D A (PW G ph pd nr nc (tn nr nc t pL) pG pB pk pa pt pm) := hD
        refine b_if_eq (tgt := 41) hx hb dX2_firstTurn_24 (by decide) (fun c24 => ?_) (fun c24 => ?_)
        · skip
          refine lv_iconst (v := nI 0) hx hb dX2_firstTurn_41 (by decide) ?_
          refine lv_istore_n (lv' := [(3, .int (nI 0)), (2, .int (nI t)), (0, .ref ph), (1, .int (nI 3))]) hx hb dX2_firstTurn_42 rfl hl (by decide) rfl (fun ls hl => ?_)
          refine lv_aload_n hx hb dX2_firstTurn_43 rfl (lv_at hl 2 rfl) ?_
          refine lv_aload_n hx hb dX2_firstTurn_44 rfl (lv_at hl 2 rfl) ?_
          refine va_get (D := G.1) (ci := 1) (v := .ref (pd 0)) (C := RX2) (T := TX2) (N := 14) hx hb hts in_X2 hown hK hP 0 rfl rfl 2 (by decide) (hts _ q145) (fun _ h9 => h9) rfl dX2_firstTurn_45 ?_
          refine lv_iload_n hx hb dX2_firstTurn_48 rfl (lv_at hl 1 rfl) ?_
          refine callSi (As := [.int (nI t)]) (rest := [.ref (pd 0), .ref ph]) (wc := ([] : va_W)) (wr := (PW G ph pd nr nc (tn nr nc t pL) pG pB pk pa pt pm)) ⟨hx, hb, hml, hown, hts⟩ (m_X2_back l G t (by first | assumption | omega)) (va_cwS 1 hts (lw_S q1035 q1036 q89 q1037) rfl rfl rfl (by decide +kernel) ⟨Nat.le_of_ble_eq_true rfl, Nat.le_of_ble_eq_true rfl⟩) hK hZ hA hP hD hS [] [0, 1, 2, 3, 4, 5] rfl rfl (by decide) (by decide) (by decide) rfl hl.1 (Nat.le_of_ble_eq_true rfl) ⟨Nat.le_of_ble_eq_true rfl, Nat.le_of_ble_eq_true rfl⟩ rfl dX2_firstTurn_49 (fun r9 u9 H locs hw9 hP hD hS => ?_)
          subst hw9
          have hP : va_P G.1 CL (PW G ph pd nr nc (tn nr nc t pL) pG pB pk pa pt pm) _ := hP
          have hD : va_D A (PW G ph pd nr nc (tn nr nc t pL) pG pB pk pa pt pm) := hD
          refine callVv (As := [.ref (pd 0), .int (nI (bk t))]) (rest := []) (wc := (PW G ph pd nr nc (tn nr nc t pL) pG pB pk pa pt pm)) (wr := ([] : va_W)) ⟨hx, hb, hml, hown, hts⟩ (m_X2_turns_2__L l G ph pd nr nc (tn nr nc t pL) pG pB pk pa pt pm (bk t) (by first | assumption | omega) (bk_lt hd (by omega)).1 (tn_lt hL)) (cwV 2 hts (lw_V q1031 q1032 q1033 q89 q1034) rfl rfl rfl (by decide +kernel) ⟨Nat.le_of_ble_eq_true rfl, Nat.le_of_ble_eq_true rfl⟩) hK hZ hA hP hD hS [0, 1, 2, 3, 4, 5] [] rfl rfl (by decide) (by decide) (by decide) 0 1 rfl rfl rfl hl.1 (Nat.le_of_ble_eq_true rfl) ⟨Nat.le_of_ble_eq_true rfl, Nat.le_of_ble_eq_true rfl⟩ rfl dX2_firstTurn_52 (fun u9 H locs hw9 hP hD hS => ?_)
          have hP : va_P G.1 CL (PW G ph pd nr nc (tn nr nc (bk t) (tn nr nc t pL)) pG pB pk pa pt pm) _ := hP
          have hD : va_D A (PW G ph pd nr nc (tn nr nc (bk t) (tn nr nc t pL)) pG pB pk pa pt pm) := hD
          rw [show (tn nr nc (bk t) (tn nr nc t pL)) = pL from (tn_bk hd (by omega) pL)] at hP hD
          refine lv_iload_n hx hb dX2_firstTurn_55 rfl (lv_at hl 0 rfl) ?_
          refine n_if_eq (tgt := 61) hx hb dX2_firstTurn_56 (by decide) (by decide) (fun c56 => ?_) (fun c56 => ?_)
          rotate_left
          · exact absurd c56 (by decide)
          refine lv_iinc (v := nI (t + 1)) (lv' := [(2, .int (nI (t + 1))), (3, .int (nI 0)), (0, .ref ph), (1, .int (nI 3))]) hx hb dX2_firstTurn_61 hl (k := 1) rfl (nI_add _ _) (by decide) rfl (fun ls hl => ?_)
          refine lv_goto (tgt := 2) hx hb dX2_firstTurn_64 (by decide) ?_
          exact ih2 (t + 1) (by omega) (by omega) (fx_up hf (by first | (simp [c24]; done) | (simp [c24, c34]; done) | (simp [c34]; done))) _ _ _ hP hD hS (lv_sub hl [0, 2, 3] rfl)
        · skip
          refine lv_aload_n hx hb dX2_firstTurn_27 rfl (lv_at hl 1 rfl) ?_
          refine lv_iload_n hx hb dX2_firstTurn_28 rfl (lv_at hl 2 rfl) ?_
          refine lv_iconst (v := nI 1) hx hb dX2_firstTurn_29 (by decide) ?_
          refine n_isub hx hb (by decide) dX2_firstTurn_30 ?_
          refine callVi (As := [.int (nI 2)]) (rest := []) (wc := (PW G ph pd nr nc (tn nr nc t pL) pG pB pk pa pt pm)) (wr := ([] : va_W)) ⟨hx, hb, hml, hown, hts⟩ (m_X2_isIn__2 l G ph pd nr nc (tn nr nc t pL) pG pB pk pa pt pm (by first | assumption | omega) (tn_lt hL) (by first | assumption | omega)) (cwV 1 hts (lw_V q1051 q1053 qs12 q89 q1054) rfl rfl rfl (by decide +kernel) ⟨Nat.le_of_ble_eq_true rfl, Nat.le_of_ble_eq_true rfl⟩) hK hZ hA hP hD hS [0, 1, 2, 3, 4, 5] [] rfl rfl (by decide) (by decide) (by decide) 0 1 rfl rfl rfl hl.1 (Nat.le_of_ble_eq_true rfl) ⟨Nat.le_of_ble_eq_true rfl, Nat.le_of_ble_eq_true rfl⟩ rfl dX2_firstTurn_31 (fun r9 u9 H locs hw9 hP hD hS => ?_)
          subst hw9
          have hP : va_P G.1 CL (PW G ph pd nr nc (tn nr nc t pL) pG pB pk pa pt pm) _ := hP
          have hD : va_D A (PW G ph pd nr nc (tn nr nc t pL) pG pB pk pa pt pm) := hD
          refine b_if_eq (tgt := 41) hx hb dX2_firstTurn_34 (by decide) (fun c34 => ?_) (fun c34 => ?_)
          · skip
            refine lv_iconst (v := nI 0) hx hb dX2_firstTurn_41 (by decide) ?_
            refine lv_istore_n (lv' := [(3, .int (nI 0)), (2, .int (nI t)), (0, .ref ph), (1, .int (nI 3))]) hx hb dX2_firstTurn_42 rfl hl (by decide) rfl (fun ls hl => ?_)
            refine lv_aload_n hx hb dX2_firstTurn_43 rfl (lv_at hl 2 rfl) ?_
            refine lv_aload_n hx hb dX2_firstTurn_44 rfl (lv_at hl 2 rfl) ?_
            refine va_get (D := G.1) (ci := 1) (v := .ref (pd 0)) (C := RX2) (T := TX2) (N := 14) hx hb hts in_X2 hown hK hP 0 rfl rfl 2 (by decide) (hts _ q145) (fun _ h9 => h9) rfl dX2_firstTurn_45 ?_
            refine lv_iload_n hx hb dX2_firstTurn_48 rfl (lv_at hl 1 rfl) ?_
            refine callSi (As := [.int (nI t)]) (rest := [.ref (pd 0), .ref ph]) (wc := ([] : va_W)) (wr := (PW G ph pd nr nc (tn nr nc t pL) pG pB pk pa pt pm)) ⟨hx, hb, hml, hown, hts⟩ (m_X2_back l G t (by first | assumption | omega)) (va_cwS 1 hts (lw_S q1035 q1036 q89 q1037) rfl rfl rfl (by decide +kernel) ⟨Nat.le_of_ble_eq_true rfl, Nat.le_of_ble_eq_true rfl⟩) hK hZ hA hP hD hS [] [0, 1, 2, 3, 4, 5] rfl rfl (by decide) (by decide) (by decide) rfl hl.1 (Nat.le_of_ble_eq_true rfl) ⟨Nat.le_of_ble_eq_true rfl, Nat.le_of_ble_eq_true rfl⟩ rfl dX2_firstTurn_49 (fun r9 u9 H locs hw9 hP hD hS => ?_)
            subst hw9
            have hP : va_P G.1 CL (PW G ph pd nr nc (tn nr nc t pL) pG pB pk pa pt pm) _ := hP
            have hD : va_D A (PW G ph pd nr nc (tn nr nc t pL) pG pB pk pa pt pm) := hD
            refine callVv (As := [.ref (pd 0), .int (nI (bk t))]) (rest := []) (wc := (PW G ph pd nr nc (tn nr nc t pL) pG pB pk pa pt pm)) (wr := ([] : va_W)) ⟨hx, hb, hml, hown, hts⟩ (m_X2_turns_2__L l G ph pd nr nc (tn nr nc t pL) pG pB pk pa pt pm (bk t) (by first | assumption | omega) (bk_lt hd (by omega)).1 (tn_lt hL)) (cwV 2 hts (lw_V q1031 q1032 q1033 q89 q1034) rfl rfl rfl (by decide +kernel) ⟨Nat.le_of_ble_eq_true rfl, Nat.le_of_ble_eq_true rfl⟩) hK hZ hA hP hD hS [0, 1, 2, 3, 4, 5] [] rfl rfl (by decide) (by decide) (by decide) 0 1 rfl rfl rfl hl.1 (Nat.le_of_ble_eq_true rfl) ⟨Nat.le_of_ble_eq_true rfl, Nat.le_of_ble_eq_true rfl⟩ rfl dX2_firstTurn_52 (fun u9 H locs hw9 hP hD hS => ?_)
            have hP : va_P G.1 CL (PW G ph pd nr nc (tn nr nc (bk t) (tn nr nc t pL)) pG pB pk pa pt pm) _ := hP
            have hD : va_D A (PW G ph pd nr nc (tn nr nc (bk t) (tn nr nc t pL)) pG pB pk pa pt pm) := hD
            rw [show (tn nr nc (bk t) (tn nr nc t pL)) = pL from (tn_bk hd (by omega) pL)] at hP hD
            refine lv_iload_n hx hb dX2_firstTurn_55 rfl (lv_at hl 0 rfl) ?_
            refine n_if_eq (tgt := 61) hx hb dX2_firstTurn_56 (by decide) (by decide) (fun c56 => ?_) (fun c56 => ?_)
            rotate_left
            · exact absurd c56 (by decide)
            refine lv_iinc (v := nI (t + 1)) (lv' := [(2, .int (nI (t + 1))), (3, .int (nI 0)), (0, .ref ph), (1, .int (nI 3))]) hx hb dX2_firstTurn_61 hl (k := 1) rfl (nI_add _ _) (by decide) rfl (fun ls hl => ?_)
            refine lv_goto (tgt := 2) hx hb dX2_firstTurn_64 (by decide) ?_
            exact ih2 (t + 1) (by omega) (by omega) (fx_up hf (by first | (simp [c24]; done) | (simp [c24, c34]; done) | (simp [c34]; done))) _ _ _ hP hD hS (lv_sub hl [0, 2, 3] rfl)
          · skip
            refine lv_iconst (v := nI 1) hx hb dX2_firstTurn_37 (by decide) ?_
            refine lv_goto (tgt := 42) hx hb dX2_firstTurn_38 (by decide) ?_
            refine lv_istore_n (lv' := [(3, .int (nI 1)), (2, .int (nI t)), (0, .ref ph), (1, .int (nI 3))]) hx hb dX2_firstTurn_42 rfl hl (by decide) rfl (fun ls hl => ?_)
            refine lv_aload_n hx hb dX2_firstTurn_43 rfl (lv_at hl 2 rfl) ?_
            refine lv_aload_n hx hb dX2_firstTurn_44 rfl (lv_at hl 2 rfl) ?_
            refine va_get (D := G.1) (ci := 1) (v := .ref (pd 0)) (C := RX2) (T := TX2) (N := 14) hx hb hts in_X2 hown hK hP 0 rfl rfl 2 (by decide) (hts _ q145) (fun _ h9 => h9) rfl dX2_firstTurn_45 ?_
            refine lv_iload_n hx hb dX2_firstTurn_48 rfl (lv_at hl 1 rfl) ?_
            refine callSi (As := [.int (nI t)]) (rest := [.ref (pd 0), .ref ph]) (wc := ([] : va_W)) (wr := (PW G ph pd nr nc (tn nr nc t pL) pG pB pk pa pt pm)) ⟨hx, hb, hml, hown, hts⟩ (m_X2_back l G t (by first | assumption | omega)) (va_cwS 1 hts (lw_S q1035 q1036 q89 q1037) rfl rfl rfl (by decide +kernel) ⟨Nat.le_of_ble_eq_true rfl, Nat.le_of_ble_eq_true rfl⟩) hK hZ hA hP hD hS [] [0, 1, 2, 3, 4, 5] rfl rfl (by decide) (by decide) (by decide) rfl hl.1 (Nat.le_of_ble_eq_true rfl) ⟨Nat.le_of_ble_eq_true rfl, Nat.le_of_ble_eq_true rfl⟩ rfl dX2_firstTurn_49 (fun r9 u9 H locs hw9 hP hD hS => ?_)
            subst hw9
            have hP : va_P G.1 CL (PW G ph pd nr nc (tn nr nc t pL) pG pB pk pa pt pm) _ := hP
            have hD : va_D A (PW G ph pd nr nc (tn nr nc t pL) pG pB pk pa pt pm) := hD
            refine callVv (As := [.ref (pd 0), .int (nI (bk t))]) (rest := []) (wc := (PW G ph pd nr nc (tn nr nc t pL) pG pB pk pa pt pm)) (wr := ([] : va_W)) ⟨hx, hb, hml, hown, hts⟩ (m_X2_turns_2__L l G ph pd nr nc (tn nr nc t pL) pG pB pk pa pt pm (bk t) (by first | assumption | omega) (bk_lt hd (by omega)).1 (tn_lt hL)) (cwV 2 hts (lw_V q1031 q1032 q1033 q89 q1034) rfl rfl rfl (by decide +kernel) ⟨Nat.le_of_ble_eq_true rfl, Nat.le_of_ble_eq_true rfl⟩) hK hZ hA hP hD hS [0, 1, 2, 3, 4, 5] [] rfl rfl (by decide) (by decide) (by decide) 0 1 rfl rfl rfl hl.1 (Nat.le_of_ble_eq_true rfl) ⟨Nat.le_of_ble_eq_true rfl, Nat.le_of_ble_eq_true rfl⟩ rfl dX2_firstTurn_52 (fun u9 H locs hw9 hP hD hS => ?_)
            have hP : va_P G.1 CL (PW G ph pd nr nc (tn nr nc (bk t) (tn nr nc t pL)) pG pB pk pa pt pm) _ := hP
            have hD : va_D A (PW G ph pd nr nc (tn nr nc (bk t) (tn nr nc t pL)) pG pB pk pa pt pm) := hD
            rw [show (tn nr nc (bk t) (tn nr nc t pL)) = pL from (tn_bk hd (by omega) pL)] at hP hD
            refine lv_iload_n hx hb dX2_firstTurn_55 rfl (lv_at hl 0 rfl) ?_
            refine n_if_eq (tgt := 61) hx hb dX2_firstTurn_56 (by decide) (by decide) (fun c56 => ?_) (fun c56 => ?_)
            · exact absurd c56 (by decide)
            refine lv_iload_n hx hb dX2_firstTurn_59 rfl (lv_at hl 1 rfl) ?_
            subst hQ
            exact ret_i hx hb hr hlk () (by rw [ftN, fx_lt (by omega) hf (by simp only [c24, c34]; rfl), oN_lt (by omega)]) hP hD hS rfl dX2_firstTurn_60
  exact lp2 _ 0 (Nat.lt_succ_self _) (by omega) rfl _ _ _ hP hD hS (lv_sub hl [0, 1, 2] rfl)
set_option maxHeartbeats 4000000 in
set_option maxRecDepth 100000 in
theorem m_X2_makesTurn (l : Launch) (G : GG) (ph : Nat) (pd : Nat → Nat) (nr : Nat) (nc : Nat) (pL : Nat → Nat) (pG : Nat → Nat) (pB : Nat → Bool) (pk : Nat → Int32) (pa : Nat → Nat) (pt : Nat → Nat) (pm : Nat) (tt : Nat) (hd : 2 ≤ nr ∧ nr ≤ 3 ∧ 2 ≤ nc ∧ nc ≤ 3) (ht0 : tt < 2 * (nr + nc)) (hL : ∀ i, pL i < 65536) (hG : ∀ i, pG i < 65536) : MM l G yX2_makesTurn cX2_makesTurn 3 (some .int) ⟨4, 0, 0, 84⟩ [.ref ph, .int (nI tt)] (PW G ph pd nr nc pL pG pB pk pa pt pm) (Qi_ G (fun (r : Int32) (_ : Unit) => r = nI (hm nr nc (tn nr nc tt pL) pG)) (fun (_ : Unit) => (PW G ph pd nr nc (tn nr nc tt pL) pG pB (va_up (va_up pk 0 (pk 0 + 1)) 5 (pk 5 + bI (decide (hm nr nc (tn nr nc tt pL) pG = nr * nc) && !decide (hm nr nc pL pG = nr * nc)))) pa pt pm))) := by
  refine MM.of (by decide) (Nat.le_of_ble_eq_true rfl) ?_
  intro p e s m args below meth cd A C hini hA hK hZ hP hD ls hl
  generalize hQ : MQ below ((Qi_ G (fun (r : Int32) (_ : Unit) => r = nI (hm nr nc (tn nr nc tt pL) pG)) (fun (_ : Unit) => (PW G ph pd nr nc (tn nr nc tt pL) pG pB (va_up (va_up pk 0 (pk 0 + 1)) 5 (pk 5 + bI (decide (hm nr nc (tn nr nc tt pL) pG = nr * nc) && !decide (hm nr nc pL pG = nr * nc)))) pa pt pm))) A) args s (⟨4, 0, 0, 84⟩ : Room).cells (⟨4, 0, 0, 84⟩ : Room).slots A = Q
  obtain ⟨hx, hb, hr, hts, hown, hlk, hml⟩ := C
  have hown : s.vm.findClass RX2 = some m.cls := hown
  have hS : va_S A s.heap s.heap [] := va_S.rf
  have hl : lv_has ls 3 [(0, .ref ph), (1, .int (nI tt))] := hl
  have hmu := dm_mul hd
  refine lv_aload_n hx hb dX2_makesTurn_0 rfl (lv_at hl 0 rfl) ?_
  refine callVi (As := []) (rest := []) (wc := (PW G ph pd nr nc pL pG pB pk pa pt pm)) (wr := ([] : va_W)) ⟨hx, hb, hml, hown, hts⟩ (m_X2_isReached l G ph pd nr nc pL pG pB pk pa pt pm (by first | assumption | omega) (by first | assumption | omega) (by first | assumption | omega)) (cwV 0 hts (lw_V q1055 q1056 q1057 q89 q1058) rfl rfl rfl (by decide +kernel) ⟨Nat.le_of_ble_eq_true rfl, Nat.le_of_ble_eq_true rfl⟩) hK hZ hA hP hD hS [0, 1, 2, 3, 4, 5] [] rfl rfl (by decide) (by decide) (by decide) 0 1 rfl rfl rfl hl.1 (Nat.le_of_ble_eq_true rfl) ⟨Nat.le_of_ble_eq_true rfl, Nat.le_of_ble_eq_true rfl⟩ rfl dX2_makesTurn_1 (fun r9 u9 H locs hw9 hP hD hS => ?_)
  subst hw9
  have hP : va_P G.1 CL (PW G ph pd nr nc pL pG pB pk pa pt pm) _ := hP
  have hD : va_D A (PW G ph pd nr nc pL pG pB pk pa pt pm) := hD
  refine lv_istore_n (lv' := [(2, .int (bI (decide (hm nr nc pL pG = nr * nc)))), (0, .ref ph), (1, .int (nI tt))]) hx hb dX2_makesTurn_4 rfl hl (by decide) rfl (fun ls hl => ?_)
  refine lv_aload_n hx hb dX2_makesTurn_5 rfl (lv_at hl 1 rfl) ?_
  refine lv_aload_n hx hb dX2_makesTurn_6 rfl (lv_at hl 1 rfl) ?_
  refine va_get (D := G.1) (ci := 1) (v := .ref (pd 0)) (C := RX2) (T := TX2) (N := 14) hx hb hts in_X2 hown hK hP 0 rfl rfl 2 (by decide) (hts _ q145) (fun _ h9 => h9) rfl dX2_makesTurn_7 ?_
  refine lv_iload_n hx hb dX2_makesTurn_10 rfl (lv_at hl 2 rfl) ?_
  refine callVv (As := [.ref (pd 0), .int (nI tt)]) (rest := []) (wc := (PW G ph pd nr nc pL pG pB pk pa pt pm)) (wr := ([] : va_W)) ⟨hx, hb, hml, hown, hts⟩ (m_X2_turns_2__L l G ph pd nr nc pL pG pB pk pa pt pm tt (by first | assumption | omega) (by first | assumption | omega) (by first | assumption | omega)) (cwV 2 hts (lw_V q1031 q1032 q1033 q89 q1034) rfl rfl rfl (by decide +kernel) ⟨Nat.le_of_ble_eq_true rfl, Nat.le_of_ble_eq_true rfl⟩) hK hZ hA hP hD hS [0, 1, 2, 3, 4, 5] [] rfl rfl (by decide) (by decide) (by decide) 0 1 rfl rfl rfl hl.1 (Nat.le_of_ble_eq_true rfl) ⟨Nat.le_of_ble_eq_true rfl, Nat.le_of_ble_eq_true rfl⟩ rfl dX2_makesTurn_11 (fun u9 H locs hw9 hP hD hS => ?_)
  have hP : va_P G.1 CL (PW G ph pd nr nc (tn nr nc tt pL) pG pB pk pa pt pm) _ := hP
  have hD : va_D A (PW G ph pd nr nc (tn nr nc tt pL) pG pB pk pa pt pm) := hD
  refine lv_aload_n hx hb dX2_makesTurn_14 rfl (lv_at hl 1 rfl) ?_
  refine lv_dup hx hb dX2_makesTurn_15 rfl ?_
  refine va_get (D := G.1) (ci := 1) (v := .int (pk 0)) (C := RX2) (T := TX2) (N := 14) hx hb hts in_X2 hown hK hP 0 rfl rfl 5 (by decide) (hts _ q151) (fun _ h9 => h9) rfl dX2_makesTurn_16 ?_
  refine lv_iconst (v := nI 1) hx hb dX2_makesTurn_19 (by decide) ?_
  refine lv_iadd hx hb dX2_makesTurn_20 ?_
  refine va_put (D := G.1) (ci := 1) (v := .int ((pk 0) + (nI 1))) (ty := .int) (C := RX2) (T := TX2) (N := 14) hx hb hts in_X2 tyX2 tyX2_ok nmX2 hown hK hP hD hS 0 rfl rfl 5 (by decide) (hts _ q151) (fun _ h9 => h9) rfl (by decide +kernel) rfl rfl (Nat.le_of_ble_eq_true rfl) dX2_makesTurn_21 (fun H locs hP hD hS => ?_)
  have hP : va_P G.1 CL (PW G ph pd nr nc (tn nr nc tt pL) pG pB (va_up pk 0 ((pk 0) + (nI 1))) pa pt pm) _ := hP
  have hD : va_D A (PW G ph pd nr nc (tn nr nc tt pL) pG pB (va_up pk 0 ((pk 0) + (nI 1))) pa pt pm) := hD
  refine lv_aload_n hx hb dX2_makesTurn_24 rfl (lv_at hl 1 rfl) ?_
  refine lv_dup hx hb dX2_makesTurn_25 rfl ?_
  refine va_get (D := G.1) (ci := 1) (v := .int ((va_up pk 0 ((pk 0) + (nI 1))) 5)) (C := RX2) (T := TX2) (N := 14) hx hb hts in_X2 hown hK hP 0 rfl rfl 10 (by decide) (hts _ q161) (fun _ h9 => h9) rfl dX2_makesTurn_26 ?_
  refine lv_aload_n hx hb dX2_makesTurn_29 rfl (lv_at hl 1 rfl) ?_
  refine callVi (As := []) (rest := [.int ((va_up pk 0 ((pk 0) + (nI 1))) 5), .ref ph]) (wc := (PW G ph pd nr nc (tn nr nc tt pL) pG pB (va_up pk 0 ((pk 0) + (nI 1))) pa pt pm)) (wr := ([] : va_W)) ⟨hx, hb, hml, hown, hts⟩ (m_X2_isReached l G ph pd nr nc (tn nr nc tt pL) pG pB (va_up pk 0 ((pk 0) + (nI 1))) pa pt pm (by first | assumption | omega) (tn_lt hL) (by first | assumption | omega)) (cwV 0 hts (lw_V q1055 q1056 q1057 q89 q1058) rfl rfl rfl (by decide +kernel) ⟨Nat.le_of_ble_eq_true rfl, Nat.le_of_ble_eq_true rfl⟩) hK hZ hA hP hD hS [0, 1, 2, 3, 4, 5] [] rfl rfl (by decide) (by decide) (by decide) 0 1 rfl rfl rfl hl.1 (Nat.le_of_ble_eq_true rfl) ⟨Nat.le_of_ble_eq_true rfl, Nat.le_of_ble_eq_true rfl⟩ rfl dX2_makesTurn_30 (fun r9 u9 H locs hw9 hP hD hS => ?_)
  subst hw9
  have hP : va_P G.1 CL (PW G ph pd nr nc (tn nr nc tt pL) pG pB (va_up pk 0 ((pk 0) + (nI 1))) pa pt pm) _ := hP
  have hD : va_D A (PW G ph pd nr nc (tn nr nc tt pL) pG pB (va_up pk 0 ((pk 0) + (nI 1))) pa pt pm) := hD
  refine b_if_eq (tgt := 44) hx hb dX2_makesTurn_33 (by decide) (fun c33 => ?_) (fun c33 => ?_)
  · skip
    refine lv_iconst (v := nI 0) hx hb dX2_makesTurn_44 (by decide) ?_
    refine lv_iadd hx hb dX2_makesTurn_45 ?_
    refine va_put (D := G.1) (ci := 1) (v := .int (((va_up pk 0 ((pk 0) + (nI 1))) 5) + (nI 0))) (ty := .int) (C := RX2) (T := TX2) (N := 14) hx hb hts in_X2 tyX2 tyX2_ok nmX2 hown hK hP hD hS 0 rfl rfl 10 (by decide) (hts _ q161) (fun _ h9 => h9) rfl (by decide +kernel) rfl rfl (Nat.le_of_ble_eq_true rfl) dX2_makesTurn_46 (fun H locs hP hD hS => ?_)
    have hP : va_P G.1 CL (PW G ph pd nr nc (tn nr nc tt pL) pG pB (va_up (va_up pk 0 ((pk 0) + (nI 1))) 5 (((va_up pk 0 ((pk 0) + (nI 1))) 5) + (nI 0))) pa pt pm) _ := hP
    have hD : va_D A (PW G ph pd nr nc (tn nr nc tt pL) pG pB (va_up (va_up pk 0 ((pk 0) + (nI 1))) 5 (((va_up pk 0 ((pk 0) + (nI 1))) 5) + (nI 0))) pa pt pm) := hD
    refine lv_aload_n hx hb dX2_makesTurn_49 rfl (lv_at hl 1 rfl) ?_
    refine callVi (As := []) (rest := []) (wc := (PW G ph pd nr nc (tn nr nc tt pL) pG pB (va_up (va_up pk 0 ((pk 0) + (nI 1))) 5 (((va_up pk 0 ((pk 0) + (nI 1))) 5) + (nI 0))) pa pt pm)) (wr := ([] : va_W)) ⟨hx, hb, hml, hown, hts⟩ (m_X2_home l G ph pd nr nc (tn nr nc tt pL) pG pB (va_up (va_up pk 0 ((pk 0) + (nI 1))) 5 (((va_up pk 0 ((pk 0) + (nI 1))) 5) + (nI 0))) pa pt pm (by first | assumption | omega) (tn_lt hL) (by first | assumption | omega)) (cwV 0 hts (lw_V q1059 q510 q511 q89 q512) rfl rfl rfl (by decide +kernel) ⟨Nat.le_of_ble_eq_true rfl, Nat.le_of_ble_eq_true rfl⟩) hK hZ hA hP hD hS [0, 1, 2, 3, 4, 5] [] rfl rfl (by decide) (by decide) (by decide) 0 1 rfl rfl rfl hl.1 (Nat.le_of_ble_eq_true rfl) ⟨Nat.le_of_ble_eq_true rfl, Nat.le_of_ble_eq_true rfl⟩ rfl dX2_makesTurn_50 (fun r9 u9 H locs hw9 hP hD hS => ?_)
    subst hw9
    have hP : va_P G.1 CL (PW G ph pd nr nc (tn nr nc tt pL) pG pB (va_up (va_up pk 0 ((pk 0) + (nI 1))) 5 (((va_up pk 0 ((pk 0) + (nI 1))) 5) + (nI 0))) pa pt pm) _ := hP
    have hD : va_D A (PW G ph pd nr nc (tn nr nc tt pL) pG pB (va_up (va_up pk 0 ((pk 0) + (nI 1))) 5 (((va_up pk 0 ((pk 0) + (nI 1))) 5) + (nI 0))) pa pt pm) := hD
    have e_k : (va_up (va_up pk 0 ((pk 0) + (nI 1))) 5 (((va_up pk 0 ((pk 0) + (nI 1))) 5) + (nI 0))) = (va_up (va_up pk 0 (pk 0 + 1)) 5 (pk 5 + bI (decide (hm nr nc (tn nr nc tt pL) pG = nr * nc) && !decide (hm nr nc pL pG = nr * nc)))) := (by first | (rw [c33, c37]; rfl) | (rw [c33]; rfl))
    rw [e_k] at hP hD
    subst hQ
    exact ret_i hx hb hr hlk () rfl hP hD hS rfl dX2_makesTurn_53
  · skip
    refine lv_iload_n hx hb dX2_makesTurn_36 rfl (lv_at hl 0 rfl) ?_
    refine b_if_ne (tgt := 44) hx hb dX2_makesTurn_37 (by decide) (fun c37 => ?_) (fun c37 => ?_)
    · skip
      refine lv_iconst (v := nI 0) hx hb dX2_makesTurn_44 (by decide) ?_
      refine lv_iadd hx hb dX2_makesTurn_45 ?_
      refine va_put (D := G.1) (ci := 1) (v := .int (((va_up pk 0 ((pk 0) + (nI 1))) 5) + (nI 0))) (ty := .int) (C := RX2) (T := TX2) (N := 14) hx hb hts in_X2 tyX2 tyX2_ok nmX2 hown hK hP hD hS 0 rfl rfl 10 (by decide) (hts _ q161) (fun _ h9 => h9) rfl (by decide +kernel) rfl rfl (Nat.le_of_ble_eq_true rfl) dX2_makesTurn_46 (fun H locs hP hD hS => ?_)
      have hP : va_P G.1 CL (PW G ph pd nr nc (tn nr nc tt pL) pG pB (va_up (va_up pk 0 ((pk 0) + (nI 1))) 5 (((va_up pk 0 ((pk 0) + (nI 1))) 5) + (nI 0))) pa pt pm) _ := hP
      have hD : va_D A (PW G ph pd nr nc (tn nr nc tt pL) pG pB (va_up (va_up pk 0 ((pk 0) + (nI 1))) 5 (((va_up pk 0 ((pk 0) + (nI 1))) 5) + (nI 0))) pa pt pm) := hD
      refine lv_aload_n hx hb dX2_makesTurn_49 rfl (lv_at hl 1 rfl) ?_
      refine callVi (As := []) (rest := []) (wc := (PW G ph pd nr nc (tn nr nc tt pL) pG pB (va_up (va_up pk 0 ((pk 0) + (nI 1))) 5 (((va_up pk 0 ((pk 0) + (nI 1))) 5) + (nI 0))) pa pt pm)) (wr := ([] : va_W)) ⟨hx, hb, hml, hown, hts⟩ (m_X2_home l G ph pd nr nc (tn nr nc tt pL) pG pB (va_up (va_up pk 0 ((pk 0) + (nI 1))) 5 (((va_up pk 0 ((pk 0) + (nI 1))) 5) + (nI 0))) pa pt pm (by first | assumption | omega) (tn_lt hL) (by first | assumption | omega)) (cwV 0 hts (lw_V q1059 q510 q511 q89 q512) rfl rfl rfl (by decide +kernel) ⟨Nat.le_of_ble_eq_true rfl, Nat.le_of_ble_eq_true rfl⟩) hK hZ hA hP hD hS [0, 1, 2, 3, 4, 5] [] rfl rfl (by decide) (by decide) (by decide) 0 1 rfl rfl rfl hl.1 (Nat.le_of_ble_eq_true rfl) ⟨Nat.le_of_ble_eq_true rfl, Nat.le_of_ble_eq_true rfl⟩ rfl dX2_makesTurn_50 (fun r9 u9 H locs hw9 hP hD hS => ?_)
      subst hw9
      have hP : va_P G.1 CL (PW G ph pd nr nc (tn nr nc tt pL) pG pB (va_up (va_up pk 0 ((pk 0) + (nI 1))) 5 (((va_up pk 0 ((pk 0) + (nI 1))) 5) + (nI 0))) pa pt pm) _ := hP
      have hD : va_D A (PW G ph pd nr nc (tn nr nc tt pL) pG pB (va_up (va_up pk 0 ((pk 0) + (nI 1))) 5 (((va_up pk 0 ((pk 0) + (nI 1))) 5) + (nI 0))) pa pt pm) := hD
      have e_k : (va_up (va_up pk 0 ((pk 0) + (nI 1))) 5 (((va_up pk 0 ((pk 0) + (nI 1))) 5) + (nI 0))) = (va_up (va_up pk 0 (pk 0 + 1)) 5 (pk 5 + bI (decide (hm nr nc (tn nr nc tt pL) pG = nr * nc) && !decide (hm nr nc pL pG = nr * nc)))) := (by first | (rw [c33, c37]; rfl) | (rw [c33]; rfl))
      rw [e_k] at hP hD
      subst hQ
      exact ret_i hx hb hr hlk () rfl hP hD hS rfl dX2_makesTurn_53
    · skip
      refine lv_iconst (v := nI 1) hx hb dX2_makesTurn_40 (by decide) ?_
      refine lv_goto (tgt := 45) hx hb dX2_makesTurn_41 (by decide) ?_
      refine lv_iadd hx hb dX2_makesTurn_45 ?_
      refine va_put (D := G.1) (ci := 1) (v := .int (((va_up pk 0 ((pk 0) + (nI 1))) 5) + (nI 1))) (ty := .int) (C := RX2) (T := TX2) (N := 14) hx hb hts in_X2 tyX2 tyX2_ok nmX2 hown hK hP hD hS 0 rfl rfl 10 (by decide) (hts _ q161) (fun _ h9 => h9) rfl (by decide +kernel) rfl rfl (Nat.le_of_ble_eq_true rfl) dX2_makesTurn_46 (fun H locs hP hD hS => ?_)
      have hP : va_P G.1 CL (PW G ph pd nr nc (tn nr nc tt pL) pG pB (va_up (va_up pk 0 ((pk 0) + (nI 1))) 5 (((va_up pk 0 ((pk 0) + (nI 1))) 5) + (nI 1))) pa pt pm) _ := hP
      have hD : va_D A (PW G ph pd nr nc (tn nr nc tt pL) pG pB (va_up (va_up pk 0 ((pk 0) + (nI 1))) 5 (((va_up pk 0 ((pk 0) + (nI 1))) 5) + (nI 1))) pa pt pm) := hD
      refine lv_aload_n hx hb dX2_makesTurn_49 rfl (lv_at hl 1 rfl) ?_
      refine callVi (As := []) (rest := []) (wc := (PW G ph pd nr nc (tn nr nc tt pL) pG pB (va_up (va_up pk 0 ((pk 0) + (nI 1))) 5 (((va_up pk 0 ((pk 0) + (nI 1))) 5) + (nI 1))) pa pt pm)) (wr := ([] : va_W)) ⟨hx, hb, hml, hown, hts⟩ (m_X2_home l G ph pd nr nc (tn nr nc tt pL) pG pB (va_up (va_up pk 0 ((pk 0) + (nI 1))) 5 (((va_up pk 0 ((pk 0) + (nI 1))) 5) + (nI 1))) pa pt pm (by first | assumption | omega) (tn_lt hL) (by first | assumption | omega)) (cwV 0 hts (lw_V q1059 q510 q511 q89 q512) rfl rfl rfl (by decide +kernel) ⟨Nat.le_of_ble_eq_true rfl, Nat.le_of_ble_eq_true rfl⟩) hK hZ hA hP hD hS [0, 1, 2, 3, 4, 5] [] rfl rfl (by decide) (by decide) (by decide) 0 1 rfl rfl rfl hl.1 (Nat.le_of_ble_eq_true rfl) ⟨Nat.le_of_ble_eq_true rfl, Nat.le_of_ble_eq_true rfl⟩ rfl dX2_makesTurn_50 (fun r9 u9 H locs hw9 hP hD hS => ?_)
      subst hw9
      have hP : va_P G.1 CL (PW G ph pd nr nc (tn nr nc tt pL) pG pB (va_up (va_up pk 0 ((pk 0) + (nI 1))) 5 (((va_up pk 0 ((pk 0) + (nI 1))) 5) + (nI 1))) pa pt pm) _ := hP
      have hD : va_D A (PW G ph pd nr nc (tn nr nc tt pL) pG pB (va_up (va_up pk 0 ((pk 0) + (nI 1))) 5 (((va_up pk 0 ((pk 0) + (nI 1))) 5) + (nI 1))) pa pt pm) := hD
      have e_k : (va_up (va_up pk 0 ((pk 0) + (nI 1))) 5 (((va_up pk 0 ((pk 0) + (nI 1))) 5) + (nI 1))) = (va_up (va_up pk 0 (pk 0 + 1)) 5 (pk 5 + bI (decide (hm nr nc (tn nr nc tt pL) pG = nr * nc) && !decide (hm nr nc pL pG = nr * nc)))) := (by first | (rw [c33, c37]; rfl) | (rw [c33]; rfl))
      rw [e_k] at hP hD
      subst hQ
      exact ret_i hx hb hr hlk () rfl hP hD hS rfl dX2_makesTurn_53
set_option maxHeartbeats 4000000 in
set_option maxRecDepth 100000 in
theorem m_X2_best (l : Launch) (G : GG) (ph : Nat) (pd : Nat → Nat) (nr : Nat) (nc : Nat) (pL : Nat → Nat) (pG : Nat → Nat) (pB : Nat → Bool) (pk : Nat → Int32) (pa : Nat → Nat) (pt : Nat → Nat) (pm : Nat) (hd : 2 ≤ nr ∧ nr ≤ 3 ∧ 2 ≤ nc ∧ nc ≤ 3) (hL : ∀ i, pL i < 65536) (hG : ∀ i, pG i < 65536) : MM l G yX2_best cX2_best 3 (some .int) ⟨4, 0, 0, 86⟩ [.ref ph] (PW G ph pd nr nc pL pG pB pk pa pt pm) (Qi_ G (fun (r : Int32) (_ : Unit) => r = (oN (2 * (nr + nc)) (bsN nr nc pB pL pG (2 * (nr + nc))))) (fun (_ : Unit) => (PW G ph pd nr nc pL pG pB pk pa pt pm))) := by
  refine MM.of (by decide) (Nat.le_of_ble_eq_true rfl) ?_
  intro p e s m args below meth cd A C hini hA hK hZ hP hD ls hl
  generalize hQ : MQ below ((Qi_ G (fun (r : Int32) (_ : Unit) => r = (oN (2 * (nr + nc)) (bsN nr nc pB pL pG (2 * (nr + nc))))) (fun (_ : Unit) => (PW G ph pd nr nc pL pG pB pk pa pt pm))) A) args s (⟨4, 0, 0, 86⟩ : Room).cells (⟨4, 0, 0, 86⟩ : Room).slots A = Q
  obtain ⟨hx, hb, hr, hts, hown, hlk, hml⟩ := C
  have hown : s.vm.findClass RX2 = some m.cls := hown
  have hS : va_S A s.heap s.heap [] := va_S.rf
  have hl : lv_has ls 3 [(0, .ref ph)] := hl
  have hmu := dm_mul hd
  refine lv_iconst (v := (-1)) hx hb dX2_best_0 (by decide) ?_
  refine lv_istore_n (lv' := [(1, .int (-1)), (0, .ref ph)]) hx hb dX2_best_1 rfl hl (by decide) rfl (fun ls hl => ?_)
  refine lv_iconst (v := nI 0) hx hb dX2_best_2 (by decide) ?_
  refine lv_istore_n (lv' := [(2, .int (nI 0)), (1, .int (-1)), (0, .ref ph)]) hx hb dX2_best_3 rfl hl (by decide) rfl (fun ls hl => ?_)
  have lp4 : ∀ (f : Nat) (t : Nat) (o : Nat), 2 * (nr + nc) - t < f → (t ≤ 2 * (nr + nc)) → (o = bsN nr nc pB pL pG t) → ∀ (H : Heap) (locs : List Loc) (ls : Array Slot), va_P G.1 CL (PW G ph pd nr nc pL pG pB pk pa pt pm) H → va_D A (PW G ph pd nr nc pL pG pB pk pa pt pm) → va_S A s.heap H locs → lv_has ls 3 [(2, .int (nI t)), (1, .int (oN (2 * (nr + nc)) o)), (0, .ref ph)] → W p l e (⟨4, 0, 0, 86⟩ : Room) s m args below meth cd H locs 0 0 Q (F0 m 4 ls []) := by
    intro f
    induction f with
    | zero => intro t o hf; exact absurd hf (Nat.not_lt_zero _)
    | succ f ih4 =>
      intro t o hf ht hb0 H locs ls hP hD hS hl
      refine lv_iload_n hx hb dX2_best_4 rfl (lv_at hl 0 rfl) ?_
      refine lv_aload_n hx hb dX2_best_5 rfl (lv_at hl 2 rfl) ?_
      refine callVi (As := []) (rest := [.int (nI t)]) (wc := (PW G ph pd nr nc pL pG pB pk pa pt pm)) (wr := ([] : va_W)) ⟨hx, hb, hml, hown, hts⟩ (m_X2_turns l G ph pd nr nc pL pG pB pk pa pt pm ) (cwV 0 hts (lw_V q1022 q1023 q1024 q89 q1025) rfl rfl rfl (by decide +kernel) ⟨Nat.le_of_ble_eq_true rfl, Nat.le_of_ble_eq_true rfl⟩) hK hZ hA hP hD hS [0, 1, 2, 3, 4, 5] [] rfl rfl (by decide) (by decide) (by decide) 0 1 rfl rfl rfl hl.1 (Nat.le_of_ble_eq_true rfl) ⟨Nat.le_of_ble_eq_true rfl, Nat.le_of_ble_eq_true rfl⟩ rfl dX2_best_6 (fun r9 u9 H locs hw9 hP hD hS => ?_)
      subst hw9
      have hP : va_P G.1 CL (PW G ph pd nr nc pL pG pB pk pa pt pm) _ := hP
      have hD : va_D A (PW G ph pd nr nc pL pG pB pk pa pt pm) := hD
      refine n_cmp_ge (tgt := 50) hx hb dX2_best_9 (by decide) (by omega) (by omega) (fun c9 => ?_) (fun c9 => ?_)
      · skip
        refine lv_iload_n hx hb dX2_best_50 rfl (lv_at hl 1 rfl) ?_
        subst hQ
        exact ret_i hx hb hr hlk () (by rw [hb0, show t = 2 * (nr + nc) by omega]) hP hD hS rfl dX2_best_51
      · skip
        refine lv_aload_n hx hb dX2_best_12 rfl (lv_at hl 2 rfl) ?_
        refine lv_iload_n hx hb dX2_best_13 rfl (lv_at hl 0 rfl) ?_
        refine callVi (As := [.int (nI t)]) (rest := []) (wc := (PW G ph pd nr nc pL pG pB pk pa pt pm)) (wr := ([] : va_W)) ⟨hx, hb, hml, hown, hts⟩ (m_X2_can l G ph pd nr nc pL pG pB pk pa pt pm t (by first | assumption | omega) (by first | assumption | omega)) (cwV 1 hts (lw_V q1027 q1028 q1029 q89 q1030) rfl rfl rfl (by decide +kernel) ⟨Nat.le_of_ble_eq_true rfl, Nat.le_of_ble_eq_true rfl⟩) hK hZ hA hP hD hS [0, 1, 2, 3, 4, 5] [] rfl rfl (by decide) (by decide) (by decide) 0 1 rfl rfl rfl hl.1 (Nat.le_of_ble_eq_true rfl) ⟨Nat.le_of_ble_eq_true rfl, Nat.le_of_ble_eq_true rfl⟩ rfl dX2_best_14 (fun r9 u9 H locs hw9 hP hD hS => ?_)
        subst hw9
        have hP : va_P G.1 CL (PW G ph pd nr nc pL pG pB pk pa pt pm) _ := hP
        have hD : va_D A (PW G ph pd nr nc pL pG pB pk pa pt pm) := hD
        refine b_if_eq (tgt := 42) hx hb dX2_best_17 (by decide) (fun c17 => ?_) (fun c17 => ?_)
        · skip
          refine lv_iload_n hx hb dX2_best_42 rfl (lv_at hl 1 rfl) ?_
          refine lv_istore_n (lv' := [(1, .int (oN (2 * (nr + nc)) o)), (2, .int (nI t)), (0, .ref ph)]) hx hb dX2_best_43 rfl hl (by decide) rfl (fun ls hl => ?_)
          refine lv_iinc (v := nI (t + 1)) (lv' := [(2, .int (nI (t + 1))), (1, .int (oN (2 * (nr + nc)) o)), (0, .ref ph)]) hx hb dX2_best_44 hl (k := 1) rfl (nI_add _ _) (by decide) rfl (fun ls hl => ?_)
          refine lv_goto (tgt := 4) hx hb dX2_best_47 (by decide) ?_
          exact ih4 (t + 1) o (by omega) (by omega) (by first | (rw [bsN, if_pos (by simpa using c17)]; exact hb0) | (rw [bsN, if_neg (by simpa using c17), ← hb0, if_pos ho, if_neg (Nat.not_lt.mpr c35)])) _ _ _ hP hD hS (lv_sub hl [0, 1, 2] rfl)
        · skip
          refine lv_iload_n hx hb dX2_best_20 rfl (lv_at hl 1 rfl) ?_
          refine lv_iconst (v := (-1)) hx hb dX2_best_21 (by decide) ?_
          refine lv_icmp_eq (tgt := 38) hx hb dX2_best_22 (by decide) (fun c22 => ?_) (fun c22 => ?_)
          · skip
            refine lv_iload_n hx hb dX2_best_38 rfl (lv_at hl 0 rfl) ?_
            refine lv_goto (tgt := 43) hx hb dX2_best_39 (by decide) ?_
            refine lv_istore_n (lv' := [(1, .int (nI t)), (2, .int (nI t)), (0, .ref ph)]) hx hb dX2_best_43 rfl hl (by decide) rfl (fun ls hl => ?_)
            refine lv_iinc (v := nI (t + 1)) (lv' := [(2, .int (nI (t + 1))), (1, .int (nI t)), (0, .ref ph)]) hx hb dX2_best_44 hl (k := 1) rfl (nI_add _ _) (by decide) rfl (fun ls hl => ?_)
            refine lv_goto (tgt := 4) hx hb dX2_best_47 (by decide) ?_
            have hl : lv_has ls 3 [(2, .int (nI (t + 1))), (1, .int (oN (2 * (nr + nc)) t)), (0, .ref ph)] := by rw [oN_lt (by omega)]; exact hl
            exact ih4 (t + 1) t (by omega) (by omega) (by first | (have ho : ¬ o < 2 * (nr + nc) := (oN_m1 (by omega)).mp c22; rw [bsN, if_neg (by simpa using c17), ← hb0, if_neg ho]) | (rw [bsN, if_neg (by simpa using c17), ← hb0, if_pos ho, if_pos c35])) _ _ _ hP hD hS (lv_sub hl [0, 1, 2] rfl)
          · skip
            refine lv_aload_n hx hb dX2_best_25 rfl (lv_at hl 2 rfl) ?_
            refine lv_iload_n hx hb dX2_best_26 rfl (lv_at hl 0 rfl) ?_
            refine callVi (As := [.int (nI t)]) (rest := []) (wc := (PW G ph pd nr nc pL pG pB pk pa pt pm)) (wr := ([] : va_W)) ⟨hx, hb, hml, hown, hts⟩ (m_X2_would l G ph pd nr nc pL pG pB pk pa pt pm t (by first | assumption | omega) (by first | assumption | omega) (by first | assumption | omega) (by first | assumption | omega)) (cwV 1 hts (lw_V q1439 q1425 q1426 q89 q1427) rfl rfl rfl (by decide +kernel) ⟨Nat.le_of_ble_eq_true rfl, Nat.le_of_ble_eq_true rfl⟩) hK hZ hA hP hD hS [0, 1, 2, 3, 4, 5] [] rfl rfl (by decide) (by decide) (by decide) 0 1 rfl rfl rfl hl.1 (Nat.le_of_ble_eq_true rfl) ⟨Nat.le_of_ble_eq_true rfl, Nat.le_of_ble_eq_true rfl⟩ rfl dX2_best_27 (fun r9 u9 H locs hw9 hP hD hS => ?_)
            subst hw9
            have hP : va_P G.1 CL (PW G ph pd nr nc pL pG pB pk pa pt pm) _ := hP
            have hD : va_D A (PW G ph pd nr nc pL pG pB pk pa pt pm) := hD
            refine lv_aload_n hx hb dX2_best_30 rfl (lv_at hl 2 rfl) ?_
            refine lv_iload_n hx hb dX2_best_31 rfl (lv_at hl 1 rfl) ?_
            have ho : o < 2 * (nr + nc) := Classical.not_not.mp (fun z => c22 ((oN_m1 (by omega)).mpr z))
            refine eq_i (y := nI o) (oN_lt ho) ?_
            refine callVi (As := [.int (nI o)]) (rest := [.int (nI (hm nr nc (tn nr nc t pL) pG))]) (wc := (PW G ph pd nr nc pL pG pB pk pa pt pm)) (wr := ([] : va_W)) ⟨hx, hb, hml, hown, hts⟩ (m_X2_would l G ph pd nr nc pL pG pB pk pa pt pm o (by first | assumption | omega) (by first | assumption | omega) (by first | assumption | omega) (by first | assumption | omega)) (cwV 1 hts (lw_V q1439 q1425 q1426 q89 q1427) rfl rfl rfl (by decide +kernel) ⟨Nat.le_of_ble_eq_true rfl, Nat.le_of_ble_eq_true rfl⟩) hK hZ hA hP hD hS [0, 1, 2, 3, 4, 5] [] rfl rfl (by decide) (by decide) (by decide) 0 1 rfl rfl rfl hl.1 (Nat.le_of_ble_eq_true rfl) ⟨Nat.le_of_ble_eq_true rfl, Nat.le_of_ble_eq_true rfl⟩ rfl dX2_best_32 (fun r9 u9 H locs hw9 hP hD hS => ?_)
            subst hw9
            have hP : va_P G.1 CL (PW G ph pd nr nc pL pG pB pk pa pt pm) _ := hP
            have hD : va_D A (PW G ph pd nr nc pL pG pB pk pa pt pm) := hD
            have h1 := hm_le nr nc (tn nr nc t pL) pG
            have h2 := hm_le nr nc (tn nr nc o pL) pG
            refine n_cmp_le (tgt := 42) hx hb dX2_best_35 (by decide) (by omega) (by omega) (fun c35 => ?_) (fun c35 => ?_)
            · skip
              refine lv_iload_n hx hb dX2_best_42 rfl (lv_at hl 1 rfl) ?_
              refine lv_istore_n (lv' := [(1, .int (oN (2 * (nr + nc)) o)), (2, .int (nI t)), (0, .ref ph)]) hx hb dX2_best_43 rfl hl (by decide) rfl (fun ls hl => ?_)
              refine lv_iinc (v := nI (t + 1)) (lv' := [(2, .int (nI (t + 1))), (1, .int (oN (2 * (nr + nc)) o)), (0, .ref ph)]) hx hb dX2_best_44 hl (k := 1) rfl (nI_add _ _) (by decide) rfl (fun ls hl => ?_)
              refine lv_goto (tgt := 4) hx hb dX2_best_47 (by decide) ?_
              exact ih4 (t + 1) o (by omega) (by omega) (by first | (rw [bsN, if_pos (by simpa using c17)]; exact hb0) | (rw [bsN, if_neg (by simpa using c17), ← hb0, if_pos ho, if_neg (Nat.not_lt.mpr c35)])) _ _ _ hP hD hS (lv_sub hl [0, 1, 2] rfl)
            · skip
              refine lv_iload_n hx hb dX2_best_38 rfl (lv_at hl 0 rfl) ?_
              refine lv_goto (tgt := 43) hx hb dX2_best_39 (by decide) ?_
              refine lv_istore_n (lv' := [(1, .int (nI t)), (2, .int (nI t)), (0, .ref ph)]) hx hb dX2_best_43 rfl hl (by decide) rfl (fun ls hl => ?_)
              refine lv_iinc (v := nI (t + 1)) (lv' := [(2, .int (nI (t + 1))), (1, .int (nI t)), (0, .ref ph)]) hx hb dX2_best_44 hl (k := 1) rfl (nI_add _ _) (by decide) rfl (fun ls hl => ?_)
              refine lv_goto (tgt := 4) hx hb dX2_best_47 (by decide) ?_
              have hl : lv_has ls 3 [(2, .int (nI (t + 1))), (1, .int (oN (2 * (nr + nc)) t)), (0, .ref ph)] := by rw [oN_lt (by omega)]; exact hl
              exact ih4 (t + 1) t (by omega) (by omega) (by first | (have ho : ¬ o < 2 * (nr + nc) := (oN_m1 (by omega)).mp c22; rw [bsN, if_neg (by simpa using c17), ← hb0, if_neg ho]) | (rw [bsN, if_neg (by simpa using c17), ← hb0, if_pos ho, if_pos c35])) _ _ _ hP hD hS (lv_sub hl [0, 1, 2] rfl)
  have hl : lv_has ls 3 [(2, .int (nI 0)), (1, .int (oN (2 * (nr + nc)) (2 * (nr + nc)))), (0, .ref ph)] := by rw [oN_ge (Nat.lt_irrefl _)]; exact hl
  exact lp4 _ 0 (2 * (nr + nc)) (Nat.lt_succ_self _) (by omega) rfl _ _ _ hP hD hS (lv_sub hl [0, 1, 2] rfl)
set_option maxHeartbeats 4000000 in
set_option maxRecDepth 100000 in
theorem m_X2_take (l : Launch) (G : GG) (ph : Nat) (pd : Nat → Nat) (nr : Nat) (nc : Nat) (pL : Nat → Nat) (pG : Nat → Nat) (pB : Nat → Bool) (pk : Nat → Int32) (pa : Nat → Nat) (pt : Nat → Nat) (pm : Nat) (qh : Nat) (qd : Nat → Nat) (mr : Nat) (mc : Nat) (qL : Nat → Nat) (qG : Nat → Nat) (qB : Nat → Bool) (qk : Nat → Int32) (qa : Nat → Nat) (qt : Nat → Nat) (qm : Nat) (hL : ∀ i, qL i < 65536) (hG : ∀ i, qG i < 65536) : MM l G yX2_take cX2_take 2 none ⟨1, 0, 0, 18⟩ [.ref ph, .ref qh] (PW G ph pd nr nc pL pG pB pk pa pt pm ++ PW G qh qd mr mc qL qG qB qk qa qt qm) (Qv_ G (fun (_ : Unit) => True) (fun (_ : Unit) => (PW G ph pd mr mc qL qG qB qk pa pt pm ++ PW G qh qd mr mc qL qG qB qk qa qt qm))) := by
  refine MM.of (by decide) (Nat.le_of_ble_eq_true rfl) ?_
  intro p e s m args below meth cd A C hini hA hK hZ hP hD ls hl
  generalize hQ : MQ below ((Qv_ G (fun (_ : Unit) => True) (fun (_ : Unit) => (PW G ph pd mr mc qL qG qB qk pa pt pm ++ PW G qh qd mr mc qL qG qB qk qa qt qm))) A) args s (⟨1, 0, 0, 18⟩ : Room).cells (⟨1, 0, 0, 18⟩ : Room).slots A = Q
  obtain ⟨hx, hb, hr, hts, hown, hlk, hml⟩ := C
  have hown : s.vm.findClass RX2 = some m.cls := hown
  have hS : va_S A s.heap s.heap [] := va_S.rf
  have hl : lv_has ls 2 [(0, .ref ph), (1, .ref qh)] := hl
  refine lv_aload_n hx hb dX2_take_0 rfl (lv_at hl 0 rfl) ?_
  refine lv_aload_n hx hb dX2_take_1 rfl (lv_at hl 1 rfl) ?_
  refine va_get (D := G.1) (ci := 1) (v := .int (nI mr)) (C := RX2) (T := TX2) (N := 14) hx hb hts in_X2 hown hK hP 6 rfl rfl 0 (by decide) (hts _ q141) (fun _ h9 => h9) rfl dX2_take_2 ?_
  refine va_put (D := G.1) (ci := 1) (v := .int (nI mr)) (ty := .int) (C := RX2) (T := TX2) (N := 14) hx hb hts in_X2 tyX2 tyX2_ok nmX2 hown hK hP hD hS 0 rfl rfl 0 (by decide) (hts _ q141) (fun _ h9 => h9) rfl (by decide +kernel) rfl rfl (Nat.le_of_ble_eq_true rfl) dX2_take_5 (fun H locs hP hD hS => ?_)
  have hP : va_P G.1 CL (PW G ph pd mr nc pL pG pB pk pa pt pm ++ PW G qh qd mr mc qL qG qB qk qa qt qm) _ := hP
  have hD : va_D A (PW G ph pd mr nc pL pG pB pk pa pt pm ++ PW G qh qd mr mc qL qG qB qk qa qt qm) := hD
  refine lv_aload_n hx hb dX2_take_8 rfl (lv_at hl 0 rfl) ?_
  refine lv_aload_n hx hb dX2_take_9 rfl (lv_at hl 1 rfl) ?_
  refine va_get (D := G.1) (ci := 1) (v := .int (nI mc)) (C := RX2) (T := TX2) (N := 14) hx hb hts in_X2 hown hK hP 6 rfl rfl 1 (by decide) (hts _ q143) (fun _ h9 => h9) rfl dX2_take_10 ?_
  refine va_put (D := G.1) (ci := 1) (v := .int (nI mc)) (ty := .int) (C := RX2) (T := TX2) (N := 14) hx hb hts in_X2 tyX2 tyX2_ok nmX2 hown hK hP hD hS 0 rfl rfl 1 (by decide) (hts _ q143) (fun _ h9 => h9) rfl (by decide +kernel) rfl rfl (Nat.le_of_ble_eq_true rfl) dX2_take_13 (fun H locs hP hD hS => ?_)
  have hP : va_P G.1 CL (PW G ph pd mr mc pL pG pB pk pa pt pm ++ PW G qh qd mr mc qL qG qB qk qa qt qm) _ := hP
  have hD : va_D A (PW G ph pd mr mc pL pG pB pk pa pt pm ++ PW G qh qd mr mc qL qG qB qk qa qt qm) := hD
  refine lv_aload_n hx hb dX2_take_16 rfl (lv_at hl 1 rfl) ?_
  refine va_get (D := G.1) (ci := 1) (v := .ref (qd 0)) (C := RX2) (T := TX2) (N := 14) hx hb hts in_X2 hown hK hP 6 rfl rfl 2 (by decide) (hts _ q145) (fun _ h9 => h9) rfl dX2_take_17 ?_
  refine lv_iconst (v := nI 0) hx hb dX2_take_20 (by decide) ?_
  refine lv_aload_n hx hb dX2_take_21 rfl (lv_at hl 0 rfl) ?_
  refine va_get (D := G.1) (ci := 1) (v := .ref (pd 0)) (C := RX2) (T := TX2) (N := 14) hx hb hts in_X2 hown hK hP 0 rfl rfl 2 (by decide) (hts _ q145) (fun _ h9 => h9) rfl dX2_take_22 ?_
  refine lv_iconst (v := nI 0) hx hb dX2_take_25 (by decide) ?_
  refine lv_bipush (v := nI 9) hx hb dX2_take_26 (by decide) ?_
  refine cp_c hx hb (by rw [hml]; exact hl.1.symm) hown (hts _ q1021) (hts _ q426) (hts _ q425) (hts _ q104) hK hP hD hS 7 1 2 rfl rfl rfl (by decide) (by decide) (by decide) (by decide) (fun _ _ => hL _) (Nat.le_of_ble_eq_true rfl) (Nat.le_of_ble_eq_true rfl) dX2_take_28 (fun H locs hP hD hS => ?_)
  have hP : va_P G.1 CL (PW G ph pd mr mc (va_cpy qL pL 0 0 9) pG pB pk pa pt pm ++ PW G qh qd mr mc qL qG qB qk qa qt qm) _ := hP
  have hD : va_D A (PW G ph pd mr mc (va_cpy qL pL 0 0 9) pG pB pk pa pt pm ++ PW G qh qd mr mc qL qG qB qk qa qt qm) := hD
  obtain ⟨hP, hD⟩ := say_n qL hP hD 1 rfl (fun j hj => va_cpy_all hj)
  have hP : va_P G.1 CL (PW G ph pd mr mc qL pG pB pk pa pt pm ++ PW G qh qd mr mc qL qG qB qk qa qt qm) _ := hP
  have hD : va_D A (PW G ph pd mr mc qL pG pB pk pa pt pm ++ PW G qh qd mr mc qL qG qB qk qa qt qm) := hD
  refine lv_aload_n hx hb dX2_take_31 rfl (lv_at hl 1 rfl) ?_
  refine va_get (D := G.1) (ci := 1) (v := .ref (qd 1)) (C := RX2) (T := TX2) (N := 14) hx hb hts in_X2 hown hK hP 6 rfl rfl 3 (by decide) (hts _ q147) (fun _ h9 => h9) rfl dX2_take_32 ?_
  refine lv_iconst (v := nI 0) hx hb dX2_take_35 (by decide) ?_
  refine lv_aload_n hx hb dX2_take_36 rfl (lv_at hl 0 rfl) ?_
  refine va_get (D := G.1) (ci := 1) (v := .ref (pd 1)) (C := RX2) (T := TX2) (N := 14) hx hb hts in_X2 hown hK hP 0 rfl rfl 3 (by decide) (hts _ q147) (fun _ h9 => h9) rfl dX2_take_37 ?_
  refine lv_iconst (v := nI 0) hx hb dX2_take_40 (by decide) ?_
  refine lv_bipush (v := nI 9) hx hb dX2_take_41 (by decide) ?_
  refine cp_c hx hb (by rw [hml]; exact hl.1.symm) hown (hts _ q1021) (hts _ q426) (hts _ q425) (hts _ q104) hK hP hD hS 8 2 2 rfl rfl rfl (by decide) (by decide) (by decide) (by decide) (fun _ _ => hG _) (Nat.le_of_ble_eq_true rfl) (Nat.le_of_ble_eq_true rfl) dX2_take_43 (fun H locs hP hD hS => ?_)
  have hP : va_P G.1 CL (PW G ph pd mr mc qL (va_cpy qG pG 0 0 9) pB pk pa pt pm ++ PW G qh qd mr mc qL qG qB qk qa qt qm) _ := hP
  have hD : va_D A (PW G ph pd mr mc qL (va_cpy qG pG 0 0 9) pB pk pa pt pm ++ PW G qh qd mr mc qL qG qB qk qa qt qm) := hD
  obtain ⟨hP, hD⟩ := say_n qG hP hD 2 rfl (fun j hj => va_cpy_all hj)
  have hP : va_P G.1 CL (PW G ph pd mr mc qL qG pB pk pa pt pm ++ PW G qh qd mr mc qL qG qB qk qa qt qm) _ := hP
  have hD : va_D A (PW G ph pd mr mc qL qG pB pk pa pt pm ++ PW G qh qd mr mc qL qG qB qk qa qt qm) := hD
  refine lv_aload_n hx hb dX2_take_46 rfl (lv_at hl 1 rfl) ?_
  refine va_get (D := G.1) (ci := 1) (v := .ref (qd 2)) (C := RX2) (T := TX2) (N := 14) hx hb hts in_X2 hown hK hP 6 rfl rfl 4 (by decide) (hts _ q149) (fun _ h9 => h9) rfl dX2_take_47 ?_
  refine lv_iconst (v := nI 0) hx hb dX2_take_50 (by decide) ?_
  refine lv_aload_n hx hb dX2_take_51 rfl (lv_at hl 0 rfl) ?_
  refine va_get (D := G.1) (ci := 1) (v := .ref (pd 2)) (C := RX2) (T := TX2) (N := 14) hx hb hts in_X2 hown hK hP 0 rfl rfl 4 (by decide) (hts _ q149) (fun _ h9 => h9) rfl dX2_take_52 ?_
  refine lv_iconst (v := nI 0) hx hb dX2_take_55 (by decide) ?_
  refine lv_bipush (v := nI 6) hx hb dX2_take_56 (by decide) ?_
  refine cp_z hx hb (by rw [hml]; exact hl.1.symm) hown (hts _ q1021) (hts _ q426) (hts _ q425) (hts _ q104) hK hP hD hS 9 3 0 rfl rfl rfl (by decide) (by decide) (by decide) (by decide) (Nat.le_of_ble_eq_true rfl) (Nat.le_of_ble_eq_true rfl) dX2_take_58 (fun H locs hP hD hS => ?_)
  have hP : va_P G.1 CL (PW G ph pd mr mc qL qG (va_cpy qB pB 0 0 6) pk pa pt pm ++ PW G qh qd mr mc qL qG qB qk qa qt qm) _ := hP
  have hD : va_D A (PW G ph pd mr mc qL qG (va_cpy qB pB 0 0 6) pk pa pt pm ++ PW G qh qd mr mc qL qG qB qk qa qt qm) := hD
  obtain ⟨hP, hD⟩ := say_b qB hP hD 3 rfl (fun j hj => va_cpy_allb hj)
  have hP : va_P G.1 CL (PW G ph pd mr mc qL qG qB pk pa pt pm ++ PW G qh qd mr mc qL qG qB qk qa qt qm) _ := hP
  have hD : va_D A (PW G ph pd mr mc qL qG qB pk pa pt pm ++ PW G qh qd mr mc qL qG qB qk qa qt qm) := hD
  refine lv_aload_n hx hb dX2_take_61 rfl (lv_at hl 0 rfl) ?_
  refine lv_aload_n hx hb dX2_take_62 rfl (lv_at hl 1 rfl) ?_
  refine va_get (D := G.1) (ci := 1) (v := .int (qk 0)) (C := RX2) (T := TX2) (N := 14) hx hb hts in_X2 hown hK hP 6 rfl rfl 5 (by decide) (hts _ q151) (fun _ h9 => h9) rfl dX2_take_63 ?_
  refine va_put (D := G.1) (ci := 1) (v := .int (qk 0)) (ty := .int) (C := RX2) (T := TX2) (N := 14) hx hb hts in_X2 tyX2 tyX2_ok nmX2 hown hK hP hD hS 0 rfl rfl 5 (by decide) (hts _ q151) (fun _ h9 => h9) rfl (by decide +kernel) rfl rfl (Nat.le_of_ble_eq_true rfl) dX2_take_66 (fun H locs hP hD hS => ?_)
  have hP : va_P G.1 CL (PW G ph pd mr mc qL qG qB (va_up pk 0 (qk 0)) pa pt pm ++ PW G qh qd mr mc qL qG qB qk qa qt qm) _ := hP
  have hD : va_D A (PW G ph pd mr mc qL qG qB (va_up pk 0 (qk 0)) pa pt pm ++ PW G qh qd mr mc qL qG qB qk qa qt qm) := hD
  refine lv_aload_n hx hb dX2_take_69 rfl (lv_at hl 0 rfl) ?_
  refine lv_aload_n hx hb dX2_take_70 rfl (lv_at hl 1 rfl) ?_
  refine va_get (D := G.1) (ci := 1) (v := .int (qk 1)) (C := RX2) (T := TX2) (N := 14) hx hb hts in_X2 hown hK hP 6 rfl rfl 6 (by decide) (hts _ q153) (fun _ h9 => h9) rfl dX2_take_71 ?_
  refine va_put (D := G.1) (ci := 1) (v := .int (qk 1)) (ty := .int) (C := RX2) (T := TX2) (N := 14) hx hb hts in_X2 tyX2 tyX2_ok nmX2 hown hK hP hD hS 0 rfl rfl 6 (by decide) (hts _ q153) (fun _ h9 => h9) rfl (by decide +kernel) rfl rfl (Nat.le_of_ble_eq_true rfl) dX2_take_74 (fun H locs hP hD hS => ?_)
  have hP : va_P G.1 CL (PW G ph pd mr mc qL qG qB (va_up (va_up pk 0 (qk 0)) 1 (qk 1)) pa pt pm ++ PW G qh qd mr mc qL qG qB qk qa qt qm) _ := hP
  have hD : va_D A (PW G ph pd mr mc qL qG qB (va_up (va_up pk 0 (qk 0)) 1 (qk 1)) pa pt pm ++ PW G qh qd mr mc qL qG qB qk qa qt qm) := hD
  refine lv_aload_n hx hb dX2_take_77 rfl (lv_at hl 0 rfl) ?_
  refine lv_aload_n hx hb dX2_take_78 rfl (lv_at hl 1 rfl) ?_
  refine va_get (D := G.1) (ci := 1) (v := .int (qk 2)) (C := RX2) (T := TX2) (N := 14) hx hb hts in_X2 hown hK hP 6 rfl rfl 7 (by decide) (hts _ q155) (fun _ h9 => h9) rfl dX2_take_79 ?_
  refine va_put (D := G.1) (ci := 1) (v := .int (qk 2)) (ty := .int) (C := RX2) (T := TX2) (N := 14) hx hb hts in_X2 tyX2 tyX2_ok nmX2 hown hK hP hD hS 0 rfl rfl 7 (by decide) (hts _ q155) (fun _ h9 => h9) rfl (by decide +kernel) rfl rfl (Nat.le_of_ble_eq_true rfl) dX2_take_82 (fun H locs hP hD hS => ?_)
  have hP : va_P G.1 CL (PW G ph pd mr mc qL qG qB (va_up (va_up (va_up pk 0 (qk 0)) 1 (qk 1)) 2 (qk 2)) pa pt pm ++ PW G qh qd mr mc qL qG qB qk qa qt qm) _ := hP
  have hD : va_D A (PW G ph pd mr mc qL qG qB (va_up (va_up (va_up pk 0 (qk 0)) 1 (qk 1)) 2 (qk 2)) pa pt pm ++ PW G qh qd mr mc qL qG qB qk qa qt qm) := hD
  refine lv_aload_n hx hb dX2_take_85 rfl (lv_at hl 0 rfl) ?_
  refine lv_aload_n hx hb dX2_take_86 rfl (lv_at hl 1 rfl) ?_
  refine va_get (D := G.1) (ci := 1) (v := .int (qk 3)) (C := RX2) (T := TX2) (N := 14) hx hb hts in_X2 hown hK hP 6 rfl rfl 8 (by decide) (hts _ q157) (fun _ h9 => h9) rfl dX2_take_87 ?_
  refine va_put (D := G.1) (ci := 1) (v := .int (qk 3)) (ty := .int) (C := RX2) (T := TX2) (N := 14) hx hb hts in_X2 tyX2 tyX2_ok nmX2 hown hK hP hD hS 0 rfl rfl 8 (by decide) (hts _ q157) (fun _ h9 => h9) rfl (by decide +kernel) rfl rfl (Nat.le_of_ble_eq_true rfl) dX2_take_90 (fun H locs hP hD hS => ?_)
  have hP : va_P G.1 CL (PW G ph pd mr mc qL qG qB (va_up (va_up (va_up (va_up pk 0 (qk 0)) 1 (qk 1)) 2 (qk 2)) 3 (qk 3)) pa pt pm ++ PW G qh qd mr mc qL qG qB qk qa qt qm) _ := hP
  have hD : va_D A (PW G ph pd mr mc qL qG qB (va_up (va_up (va_up (va_up pk 0 (qk 0)) 1 (qk 1)) 2 (qk 2)) 3 (qk 3)) pa pt pm ++ PW G qh qd mr mc qL qG qB qk qa qt qm) := hD
  refine lv_aload_n hx hb dX2_take_93 rfl (lv_at hl 0 rfl) ?_
  refine lv_aload_n hx hb dX2_take_94 rfl (lv_at hl 1 rfl) ?_
  refine va_get (D := G.1) (ci := 1) (v := .int (qk 4)) (C := RX2) (T := TX2) (N := 14) hx hb hts in_X2 hown hK hP 6 rfl rfl 9 (by decide) (hts _ q159) (fun _ h9 => h9) rfl dX2_take_95 ?_
  refine va_put (D := G.1) (ci := 1) (v := .int (qk 4)) (ty := .int) (C := RX2) (T := TX2) (N := 14) hx hb hts in_X2 tyX2 tyX2_ok nmX2 hown hK hP hD hS 0 rfl rfl 9 (by decide) (hts _ q159) (fun _ h9 => h9) rfl (by decide +kernel) rfl rfl (Nat.le_of_ble_eq_true rfl) dX2_take_98 (fun H locs hP hD hS => ?_)
  have hP : va_P G.1 CL (PW G ph pd mr mc qL qG qB (va_up (va_up (va_up (va_up (va_up pk 0 (qk 0)) 1 (qk 1)) 2 (qk 2)) 3 (qk 3)) 4 (qk 4)) pa pt pm ++ PW G qh qd mr mc qL qG qB qk qa qt qm) _ := hP
  have hD : va_D A (PW G ph pd mr mc qL qG qB (va_up (va_up (va_up (va_up (va_up pk 0 (qk 0)) 1 (qk 1)) 2 (qk 2)) 3 (qk 3)) 4 (qk 4)) pa pt pm ++ PW G qh qd mr mc qL qG qB qk qa qt qm) := hD
  refine lv_aload_n hx hb dX2_take_101 rfl (lv_at hl 0 rfl) ?_
  refine lv_aload_n hx hb dX2_take_102 rfl (lv_at hl 1 rfl) ?_
  refine va_get (D := G.1) (ci := 1) (v := .int (qk 5)) (C := RX2) (T := TX2) (N := 14) hx hb hts in_X2 hown hK hP 6 rfl rfl 10 (by decide) (hts _ q161) (fun _ h9 => h9) rfl dX2_take_103 ?_
  refine va_put (D := G.1) (ci := 1) (v := .int (qk 5)) (ty := .int) (C := RX2) (T := TX2) (N := 14) hx hb hts in_X2 tyX2 tyX2_ok nmX2 hown hK hP hD hS 0 rfl rfl 10 (by decide) (hts _ q161) (fun _ h9 => h9) rfl (by decide +kernel) rfl rfl (Nat.le_of_ble_eq_true rfl) dX2_take_106 (fun H locs hP hD hS => ?_)
  have hP : va_P G.1 CL (PW G ph pd mr mc qL qG qB (va_up (va_up (va_up (va_up (va_up (va_up pk 0 (qk 0)) 1 (qk 1)) 2 (qk 2)) 3 (qk 3)) 4 (qk 4)) 5 (qk 5)) pa pt pm ++ PW G qh qd mr mc qL qG qB qk qa qt qm) _ := hP
  have hD : va_D A (PW G ph pd mr mc qL qG qB (va_up (va_up (va_up (va_up (va_up (va_up pk 0 (qk 0)) 1 (qk 1)) 2 (qk 2)) 3 (qk 3)) 4 (qk 4)) 5 (qk 5)) pa pt pm ++ PW G qh qd mr mc qL qG qB qk qa qt qm) := hD
  have hP : va_P G.1 CL (PW G ph pd mr mc qL qG qB qk pa pt pm ++ PW G qh qd mr mc qL qG qB qk qa qt qm) _ := hP
  have hD : va_D A (PW G ph pd mr mc qL qG qB qk pa pt pm ++ PW G qh qd mr mc qL qG qB qk qa qt qm) := hD
  subst hQ
  exact ret_v hx hb hr hlk () trivial hP hD hS dX2_take_109
set_option maxHeartbeats 4000000 in
set_option maxRecDepth 100000 in
theorem m_X2_addsAhead (l : Launch) (G : GG) (ph : Nat) (pd : Nat → Nat) (nr : Nat) (nc : Nat) (pL : Nat → Nat) (pG : Nat → Nat) (pB : Nat → Bool) (pk : Nat → Int32) (pa : Nat → Nat) (pt : Nat → Nat) (pm : Nat) (mm : Nat) (hpm : pm < 157) (hL : ∀ i, pL i < 65536) : MM l G yX2_addsAhead cX2_addsAhead 2 none ⟨1, 0, 0, 18⟩ [.ref ph, .int (nI mm)] (PW G ph pd nr nc pL pG pB pk pa pt pm) (Qv_ G (fun (_ : Unit) => True) (fun (_ : Unit) => (PW G ph pd nr nc pL pG pB pk (va_cpy pL pa 0 (9 * pm) 9) (va_up pt pm mm) (pm + 1)))) := by
  refine MM.of (by decide) (Nat.le_of_ble_eq_true rfl) ?_
  intro p e s m args below meth cd A C hini hA hK hZ hP hD ls hl
  generalize hQ : MQ below ((Qv_ G (fun (_ : Unit) => True) (fun (_ : Unit) => (PW G ph pd nr nc pL pG pB pk (va_cpy pL pa 0 (9 * pm) 9) (va_up pt pm mm) (pm + 1)))) A) args s (⟨1, 0, 0, 18⟩ : Room).cells (⟨1, 0, 0, 18⟩ : Room).slots A = Q
  obtain ⟨hx, hb, hr, hts, hown, hlk, hml⟩ := C
  have hown : s.vm.findClass RX2 = some m.cls := hown
  have hS : va_S A s.heap s.heap [] := va_S.rf
  have hl : lv_has ls 2 [(0, .ref ph), (1, .int (nI mm))] := hl
  refine lv_aload_n hx hb dX2_addsAhead_0 rfl (lv_at hl 0 rfl) ?_
  refine va_get (D := G.1) (ci := 1) (v := .ref (pd 0)) (C := RX2) (T := TX2) (N := 14) hx hb hts in_X2 hown hK hP 0 rfl rfl 2 (by decide) (hts _ q145) (fun _ h9 => h9) rfl dX2_addsAhead_1 ?_
  refine lv_iconst (v := nI 0) hx hb dX2_addsAhead_4 (by decide) ?_
  refine lv_aload_n hx hb dX2_addsAhead_5 rfl (lv_at hl 0 rfl) ?_
  refine va_get (D := G.1) (ci := 1) (v := .ref (pd 3)) (C := RX2) (T := TX2) (N := 14) hx hb hts in_X2 hown hK hP 0 rfl rfl 11 (by decide) (hts _ q163) (fun _ h9 => h9) rfl dX2_addsAhead_6 ?_
  refine lv_bipush (v := nI 9) hx hb dX2_addsAhead_9 (by decide) ?_
  refine lv_aload_n hx hb dX2_addsAhead_11 rfl (lv_at hl 0 rfl) ?_
  refine va_get (D := G.1) (ci := 1) (v := .int (nI pm)) (C := RX2) (T := TX2) (N := 14) hx hb hts in_X2 hown hK hP 0 rfl rfl 13 (by decide) (hts _ q165) (fun _ h9 => h9) rfl dX2_addsAhead_12 ?_
  refine n_imul hx hb dX2_addsAhead_15 ?_
  refine lv_bipush (v := nI 9) hx hb dX2_addsAhead_16 (by decide) ?_
  refine cp_c hx hb (by rw [hml]; exact hl.1.symm) hown (hts _ q1021) (hts _ q426) (hts _ q425) (hts _ q104) hK hP hD hS 1 4 2 rfl rfl rfl (by decide) (by omega) (by decide) (by decide) (fun _ _ => hL _) (Nat.le_of_ble_eq_true rfl) (Nat.le_of_ble_eq_true rfl) dX2_addsAhead_18 (fun H locs hP hD hS => ?_)
  have hP : va_P G.1 CL (PW G ph pd nr nc pL pG pB pk (va_cpy pL pa 0 (9 * pm) 9) pt pm) _ := hP
  have hD : va_D A (PW G ph pd nr nc pL pG pB pk (va_cpy pL pa 0 (9 * pm) 9) pt pm) := hD
  refine lv_aload_n hx hb dX2_addsAhead_21 rfl (lv_at hl 0 rfl) ?_
  refine va_get (D := G.1) (ci := 1) (v := .ref (pd 4)) (C := RX2) (T := TX2) (N := 14) hx hb hts in_X2 hown hK hP 0 rfl rfl 12 (by decide) (hts _ q164) (fun _ h9 => h9) rfl dX2_addsAhead_22 ?_
  refine lv_aload_n hx hb dX2_addsAhead_25 rfl (lv_at hl 0 rfl) ?_
  refine va_get (D := G.1) (ci := 1) (v := .int (nI pm)) (C := RX2) (T := TX2) (N := 14) hx hb hts in_X2 hown hK hP 0 rfl rfl 13 (by decide) (hts _ q165) (fun _ h9 => h9) rfl dX2_addsAhead_26 ?_
  refine lv_iload_n hx hb dX2_addsAhead_29 rfl (lv_at hl 1 rfl) ?_
  refine n_iast hx hb hK hP hD hS 5 3 rfl rfl (by omega) (by decide) dX2_addsAhead_30 (fun H locs hP hD hS => ?_)
  have hP : va_P G.1 CL (PW G ph pd nr nc pL pG pB pk (va_cpy pL pa 0 (9 * pm) 9) (va_up pt pm mm) pm) _ := hP
  have hD : va_D A (PW G ph pd nr nc pL pG pB pk (va_cpy pL pa 0 (9 * pm) 9) (va_up pt pm mm) pm) := hD
  refine lv_aload_n hx hb dX2_addsAhead_31 rfl (lv_at hl 0 rfl) ?_
  refine lv_dup hx hb dX2_addsAhead_32 rfl ?_
  refine va_get (D := G.1) (ci := 1) (v := .int (nI pm)) (C := RX2) (T := TX2) (N := 14) hx hb hts in_X2 hown hK hP 0 rfl rfl 13 (by decide) (hts _ q165) (fun _ h9 => h9) rfl dX2_addsAhead_33 ?_
  refine lv_iconst (v := nI 1) hx hb dX2_addsAhead_36 (by decide) ?_
  refine n_iadd hx hb dX2_addsAhead_37 ?_
  refine va_put (D := G.1) (ci := 1) (v := .int (nI (pm + 1))) (ty := .int) (C := RX2) (T := TX2) (N := 14) hx hb hts in_X2 tyX2 tyX2_ok nmX2 hown hK hP hD hS 0 rfl rfl 13 (by decide) (hts _ q165) (fun _ h9 => h9) rfl (by decide +kernel) rfl rfl (Nat.le_of_ble_eq_true rfl) dX2_addsAhead_38 (fun H locs hP hD hS => ?_)
  have hP : va_P G.1 CL (PW G ph pd nr nc pL pG pB pk (va_cpy pL pa 0 (9 * pm) 9) (va_up pt pm mm) (pm + 1)) _ := hP
  have hD : va_D A (PW G ph pd nr nc pL pG pB pk (va_cpy pL pa 0 (9 * pm) 9) (va_up pt pm mm) (pm + 1)) := hD
  subst hQ
  exact ret_v hx hb hr hlk () trivial hP hD hS dX2_addsAhead_41
set_option maxHeartbeats 4000000 in
set_option maxRecDepth 100000 in
theorem m_X2_meets (l : Launch) (G : GG) (ph : Nat) (pd : Nat → Nat) (nr : Nat) (nc : Nat) (pL : Nat → Nat) (pG : Nat → Nat) (pB : Nat → Bool) (pk : Nat → Int32) (pa : Nat → Nat) (pt : Nat → Nat) (pm : Nat) (bd : Nat) (hd : 2 ≤ nr ∧ nr ≤ 3 ∧ 2 ≤ nc ∧ nc ≤ 3) (hbd : bd < 157) (hG : ∀ i, pG i < 65536) (hA0 : ∀ i, pa i < 65536) : MM l G yX2_meets cX2_meets 3 (some .boolean) ⟨1, 0, 0, 21⟩ [.ref ph, .int (nI bd)] (PW G ph pd nr nc pL pG pB pk pa pt pm) (Qi_ G (fun (r : Int32) (_ : Unit) => r = bI (mtN (nr * nc) (fun k => pa (9 * bd + k)) pG)) (fun (_ : Unit) => (PW G ph pd nr nc pL pG pB pk pa pt pm))) := by
  refine MM.of (by decide) (Nat.le_of_ble_eq_true rfl) ?_
  intro p e s m args below meth cd A C hini hA hK hZ hP hD ls hl
  generalize hQ : MQ below ((Qi_ G (fun (r : Int32) (_ : Unit) => r = bI (mtN (nr * nc) (fun k => pa (9 * bd + k)) pG)) (fun (_ : Unit) => (PW G ph pd nr nc pL pG pB pk pa pt pm))) A) args s (⟨1, 0, 0, 21⟩ : Room).cells (⟨1, 0, 0, 21⟩ : Room).slots A = Q
  obtain ⟨hx, hb, hr, hts, hown, hlk, hml⟩ := C
  have hown : s.vm.findClass RX2 = some m.cls := hown
  have hS : va_S A s.heap s.heap [] := va_S.rf
  have hl : lv_has ls 3 [(0, .ref ph), (1, .int (nI bd))] := hl
  have hmu := dm_mul hd
  refine lv_iconst (v := nI 0) hx hb dX2_meets_0 (by decide) ?_
  refine lv_istore_n (lv' := [(2, .int (nI 0)), (0, .ref ph), (1, .int (nI bd))]) hx hb dX2_meets_1 rfl hl (by decide) rfl (fun ls hl => ?_)
  have lp2 : ∀ (f : Nat) (i : Nat), nr * nc - i < f → (i ≤ nr * nc) → (al (fun k => ft (pa (9 * bd + k)) (pG k)) i = true) → ∀ (H : Heap) (locs : List Loc) (ls : Array Slot), va_P G.1 CL (PW G ph pd nr nc pL pG pB pk pa pt pm) H → va_D A (PW G ph pd nr nc pL pG pB pk pa pt pm) → va_S A s.heap H locs → lv_has ls 3 [(2, .int (nI i)), (0, .ref ph), (1, .int (nI bd))] → W p l e (⟨1, 0, 0, 21⟩ : Room) s m args below meth cd H locs 0 0 Q (F0 m 2 ls []) := by
    intro f
    induction f with
    | zero => intro i hf; exact absurd hf (Nat.not_lt_zero _)
    | succ f ih2 =>
      intro i hf hi ha H locs ls hP hD hS hl
      refine lv_iload_n hx hb dX2_meets_2 rfl (lv_at hl 0 rfl) ?_
      refine lv_aload_n hx hb dX2_meets_3 rfl (lv_at hl 1 rfl) ?_
      refine callVi (As := []) (rest := [.int (nI i)]) (wc := (PW G ph pd nr nc pL pG pB pk pa pt pm)) (wr := ([] : va_W)) ⟨hx, hb, hml, hown, hts⟩ (m_X2_places l G ph pd nr nc pL pG pB pk pa pt pm ) (cwV 0 hts (lw_V q474 q475 q476 q89 q477) rfl rfl rfl (by decide +kernel) ⟨Nat.le_of_ble_eq_true rfl, Nat.le_of_ble_eq_true rfl⟩) hK hZ hA hP hD hS [0, 1, 2, 3, 4, 5] [] rfl rfl (by decide) (by decide) (by decide) 0 1 rfl rfl rfl hl.1 (Nat.le_of_ble_eq_true rfl) ⟨Nat.le_of_ble_eq_true rfl, Nat.le_of_ble_eq_true rfl⟩ rfl dX2_meets_4 (fun r9 u9 H locs hw9 hP hD hS => ?_)
      subst hw9
      have hP : va_P G.1 CL (PW G ph pd nr nc pL pG pB pk pa pt pm) _ := hP
      have hD : va_D A (PW G ph pd nr nc pL pG pB pk pa pt pm) := hD
      refine n_cmp_ge (tgt := 41) hx hb dX2_meets_7 (by decide) (by omega) (by omega) (fun c7 => ?_) (fun c7 => ?_)
      · skip
        refine lv_iconst (v := nI 1) hx hb dX2_meets_41 (by decide) ?_
        subst hQ
        exact ret_i hx hb hr hlk () (bI_1 (by rw [mtN, show nr * nc = i by omega]; exact ha)) hP hD hS rfl dX2_meets_42
      · skip
        refine lv_aload_n hx hb dX2_meets_10 rfl (lv_at hl 1 rfl) ?_
        refine va_get (D := G.1) (ci := 1) (v := .ref (pd 3)) (C := RX2) (T := TX2) (N := 14) hx hb hts in_X2 hown hK hP 0 rfl rfl 11 (by decide) (hts _ q163) (fun _ h9 => h9) rfl dX2_meets_11 ?_
        refine lv_bipush (v := nI 9) hx hb dX2_meets_14 (by decide) ?_
        refine lv_iload_n hx hb dX2_meets_16 rfl (lv_at hl 2 rfl) ?_
        refine n_imul hx hb dX2_meets_17 ?_
        refine lv_iload_n hx hb dX2_meets_18 rfl (lv_at hl 0 rfl) ?_
        refine n_iadd hx hb dX2_meets_19 ?_
        refine n_cald hx hb hK hP 4 2 rfl rfl (by omega) (by decide) dX2_meets_20 ?_
        refine lv_aload_n hx hb dX2_meets_21 rfl (lv_at hl 1 rfl) ?_
        refine va_get (D := G.1) (ci := 1) (v := .ref (pd 1)) (C := RX2) (T := TX2) (N := 14) hx hb hts in_X2 hown hK hP 0 rfl rfl 3 (by decide) (hts _ q147) (fun _ h9 => h9) rfl dX2_meets_22 ?_
        refine lv_iload_n hx hb dX2_meets_25 rfl (lv_at hl 0 rfl) ?_
        refine n_cald hx hb hK hP 2 2 rfl rfl (by omega) (by decide) dX2_meets_26 ?_
        refine callSi (As := [.int (nI (pa ((9 * bd) + i))), .int (nI (pG i))]) (rest := []) (wc := ([] : va_W)) (wr := (PW G ph pd nr nc pL pG pB pk pa pt pm)) ⟨hx, hb, hml, hown, hts⟩ (m_X2_fits l G (pa ((9 * bd) + i)) (pG i) (hA0 _) (hG _)) (va_cwS 2 hts (lw_S q517 q518 q89 q519) rfl rfl rfl (by decide +kernel) ⟨Nat.le_of_ble_eq_true rfl, Nat.le_of_ble_eq_true rfl⟩) hK hZ hA hP hD hS [] [0, 1, 2, 3, 4, 5] rfl rfl (by decide) (by decide) (by decide) rfl hl.1 (Nat.le_of_ble_eq_true rfl) ⟨Nat.le_of_ble_eq_true rfl, Nat.le_of_ble_eq_true rfl⟩ rfl dX2_meets_27 (fun r9 u9 H locs hw9 hP hD hS => ?_)
        subst hw9
        have hP : va_P G.1 CL (PW G ph pd nr nc pL pG pB pk pa pt pm) _ := hP
        have hD : va_D A (PW G ph pd nr nc pL pG pB pk pa pt pm) := hD
        refine b_if_ne (tgt := 35) hx hb dX2_meets_30 (by decide) (fun c30 => ?_) (fun c30 => ?_)
        · skip
          refine lv_iinc (v := nI (i + 1)) (lv' := [(2, .int (nI (i + 1))), (0, .ref ph), (1, .int (nI bd))]) hx hb dX2_meets_35 hl (k := 0) rfl (nI_add _ _) (by decide) rfl (fun ls hl => ?_)
          refine lv_goto (tgt := 2) hx hb dX2_meets_38 (by decide) ?_
          exact ih2 (i + 1) (by omega) (by omega) (al_up ha c30) _ _ _ hP hD hS (lv_sub hl [0, 1, 2] rfl)
        · skip
          refine lv_iconst (v := nI 0) hx hb dX2_meets_33 (by decide) ?_
          subst hQ
          exact ret_i hx hb hr hlk () (bI_0 (al_f (k := i) (by omega) c30)) hP hD hS rfl dX2_meets_34
  exact lp2 _ 0 (Nat.lt_succ_self _) (by omega) rfl _ _ _ hP hD hS (lv_sub hl [0, 1, 2] rfl)
set_option maxHeartbeats 4000000 in
set_option maxRecDepth 100000 in
theorem m_X2_met (l : Launch) (G : GG) (ph : Nat) (pd : Nat → Nat) (nr : Nat) (nc : Nat) (pL : Nat → Nat) (pG : Nat → Nat) (pB : Nat → Bool) (pk : Nat → Int32) (pa : Nat → Nat) (pt : Nat → Nat) (pm : Nat) (hd : 2 ≤ nr ∧ nr ≤ 3 ∧ 2 ≤ nc ∧ nc ≤ 3) (hpm : pm ≤ 157) (hG : ∀ i, pG i < 65536) (hA0 : ∀ i, pa i < 65536) (hT0 : ∀ i, pt i < 100) : MM l G yX2_met cX2_met 3 (some .int) ⟨2, 0, 0, 43⟩ [.ref ph] (PW G ph pd nr nc pL pG pB pk pa pt pm) (Qi_ G (fun (r : Int32) (_ : Unit) => r = nI (mnN (nr * nc) pG pa pt pm)) (fun (_ : Unit) => (PW G ph pd nr nc pL pG pB pk pa pt pm))) := by
  refine MM.of (by decide) (Nat.le_of_ble_eq_true rfl) ?_
  intro p e s m args below meth cd A C hini hA hK hZ hP hD ls hl
  generalize hQ : MQ below ((Qi_ G (fun (r : Int32) (_ : Unit) => r = nI (mnN (nr * nc) pG pa pt pm)) (fun (_ : Unit) => (PW G ph pd nr nc pL pG pB pk pa pt pm))) A) args s (⟨2, 0, 0, 43⟩ : Room).cells (⟨2, 0, 0, 43⟩ : Room).slots A = Q
  obtain ⟨hx, hb, hr, hts, hown, hlk, hml⟩ := C
  have hown : s.vm.findClass RX2 = some m.cls := hown
  have hS : va_S A s.heap s.heap [] := va_S.rf
  have hl : lv_has ls 3 [(0, .ref ph)] := hl
  have hmu := dm_mul hd
  refine lv_iconst (v := nI 4) hx hb dX2_met_0 (by decide) ?_
  refine lv_istore_n (lv' := [(1, .int (nI 4)), (0, .ref ph)]) hx hb dX2_met_1 rfl hl (by decide) rfl (fun ls hl => ?_)
  refine lv_iconst (v := nI 0) hx hb dX2_met_2 (by decide) ?_
  refine lv_istore_n (lv' := [(2, .int (nI 0)), (1, .int (nI 4)), (0, .ref ph)]) hx hb dX2_met_3 rfl hl (by decide) rfl (fun ls hl => ?_)
  have lp4 : ∀ (f : Nat) (i : Nat) (b : Nat), pm - i < f → (i ≤ pm) → (b = mnN (nr * nc) pG pa pt i) → ∀ (H : Heap) (locs : List Loc) (ls : Array Slot), va_P G.1 CL (PW G ph pd nr nc pL pG pB pk pa pt pm) H → va_D A (PW G ph pd nr nc pL pG pB pk pa pt pm) → va_S A s.heap H locs → lv_has ls 3 [(2, .int (nI i)), (1, .int (nI b)), (0, .ref ph)] → W p l e (⟨2, 0, 0, 43⟩ : Room) s m args below meth cd H locs 0 0 Q (F0 m 4 ls []) := by
    intro f
    induction f with
    | zero => intro i b hf; exact absurd hf (Nat.not_lt_zero _)
    | succ f ih4 =>
      intro i b hf hi hb0 H locs ls hP hD hS hl
      refine lv_iload_n hx hb dX2_met_4 rfl (lv_at hl 0 rfl) ?_
      refine lv_aload_n hx hb dX2_met_5 rfl (lv_at hl 2 rfl) ?_
      refine va_get (D := G.1) (ci := 1) (v := .int (nI pm)) (C := RX2) (T := TX2) (N := 14) hx hb hts in_X2 hown hK hP 0 rfl rfl 13 (by decide) (hts _ q165) (fun _ h9 => h9) rfl dX2_met_6 ?_
      refine n_cmp_ge (tgt := 47) hx hb dX2_met_9 (by decide) (by omega) (by omega) (fun c9 => ?_) (fun c9 => ?_)
      · skip
        refine lv_iload_n hx hb dX2_met_47 rfl (lv_at hl 1 rfl) ?_
        subst hQ
        exact ret_i hx hb hr hlk () (by rw [hb0, show i = pm by omega]) hP hD hS rfl dX2_met_48
      · skip
        have hti := hT0 i
        have hmm := mnN_le (nr * nc) pG pa pt i
        refine lv_aload_n hx hb dX2_met_12 rfl (lv_at hl 2 rfl) ?_
        refine va_get (D := G.1) (ci := 1) (v := .ref (pd 4)) (C := RX2) (T := TX2) (N := 14) hx hb hts in_X2 hown hK hP 0 rfl rfl 12 (by decide) (hts _ q164) (fun _ h9 => h9) rfl dX2_met_13 ?_
        refine lv_iload_n hx hb dX2_met_16 rfl (lv_at hl 0 rfl) ?_
        refine n_iald hx hb hK hP 5 3 rfl rfl (by omega) (by decide) dX2_met_17 ?_
        refine lv_iload_n hx hb dX2_met_18 rfl (lv_at hl 1 rfl) ?_
        refine n_cmp_ge (tgt := 39) hx hb dX2_met_19 (by decide) (by omega) (by omega) (fun c19 => ?_) (fun c19 => ?_)
        · skip
          refine lv_iload_n hx hb dX2_met_39 rfl (lv_at hl 1 rfl) ?_
          refine lv_istore_n (lv' := [(1, .int (nI b)), (2, .int (nI i)), (0, .ref ph)]) hx hb dX2_met_40 rfl hl (by decide) rfl (fun ls hl => ?_)
          refine lv_iinc (v := nI (i + 1)) (lv' := [(2, .int (nI (i + 1))), (1, .int (nI b)), (0, .ref ph)]) hx hb dX2_met_41 hl (k := 1) rfl (nI_add _ _) (by decide) rfl (fun ls hl => ?_)
          refine lv_goto (tgt := 4) hx hb dX2_met_44 (by decide) ?_
          exact ih4 (i + 1) b (by omega) (by omega) (by first | (rw [mnN, if_neg (fun h => absurd h.1 (by omega))]; exact hb0) | (rw [mnN, if_neg (fun h => by rw [c27] at h; exact absurd h.2 (by decide))]; exact hb0)) _ _ _ hP hD hS (lv_sub hl [0, 1, 2] rfl)
        · skip
          refine lv_aload_n hx hb dX2_met_22 rfl (lv_at hl 2 rfl) ?_
          refine lv_iload_n hx hb dX2_met_23 rfl (lv_at hl 0 rfl) ?_
          refine callVi (As := [.int (nI i)]) (rest := []) (wc := (PW G ph pd nr nc pL pG pB pk pa pt pm)) (wr := ([] : va_W)) ⟨hx, hb, hml, hown, hts⟩ (m_X2_meets l G ph pd nr nc pL pG pB pk pa pt pm i (by first | assumption | omega) (by first | assumption | omega) (by first | assumption | omega) (by first | assumption | omega)) (cwV 1 hts (lw_V q1042 q1044 qs11 q89 q1045) rfl rfl rfl (by decide +kernel) ⟨Nat.le_of_ble_eq_true rfl, Nat.le_of_ble_eq_true rfl⟩) hK hZ hA hP hD hS [0, 1, 2, 3, 4, 5] [] rfl rfl (by decide) (by decide) (by decide) 0 1 rfl rfl rfl hl.1 (Nat.le_of_ble_eq_true rfl) ⟨Nat.le_of_ble_eq_true rfl, Nat.le_of_ble_eq_true rfl⟩ rfl dX2_met_24 (fun r9 u9 H locs hw9 hP hD hS => ?_)
          subst hw9
          have hP : va_P G.1 CL (PW G ph pd nr nc pL pG pB pk pa pt pm) _ := hP
          have hD : va_D A (PW G ph pd nr nc pL pG pB pk pa pt pm) := hD
          refine b_if_eq (tgt := 39) hx hb dX2_met_27 (by decide) (fun c27 => ?_) (fun c27 => ?_)
          · skip
            refine lv_iload_n hx hb dX2_met_39 rfl (lv_at hl 1 rfl) ?_
            refine lv_istore_n (lv' := [(1, .int (nI b)), (2, .int (nI i)), (0, .ref ph)]) hx hb dX2_met_40 rfl hl (by decide) rfl (fun ls hl => ?_)
            refine lv_iinc (v := nI (i + 1)) (lv' := [(2, .int (nI (i + 1))), (1, .int (nI b)), (0, .ref ph)]) hx hb dX2_met_41 hl (k := 1) rfl (nI_add _ _) (by decide) rfl (fun ls hl => ?_)
            refine lv_goto (tgt := 4) hx hb dX2_met_44 (by decide) ?_
            exact ih4 (i + 1) b (by omega) (by omega) (by first | (rw [mnN, if_neg (fun h => absurd h.1 (by omega))]; exact hb0) | (rw [mnN, if_neg (fun h => by rw [c27] at h; exact absurd h.2 (by decide))]; exact hb0)) _ _ _ hP hD hS (lv_sub hl [0, 1, 2] rfl)
          · skip
            refine lv_aload_n hx hb dX2_met_30 rfl (lv_at hl 2 rfl) ?_
            refine va_get (D := G.1) (ci := 1) (v := .ref (pd 4)) (C := RX2) (T := TX2) (N := 14) hx hb hts in_X2 hown hK hP 0 rfl rfl 12 (by decide) (hts _ q164) (fun _ h9 => h9) rfl dX2_met_31 ?_
            refine lv_iload_n hx hb dX2_met_34 rfl (lv_at hl 0 rfl) ?_
            refine n_iald hx hb hK hP 5 3 rfl rfl (by omega) (by decide) dX2_met_35 ?_
            refine lv_goto (tgt := 40) hx hb dX2_met_36 (by decide) ?_
            refine lv_istore_n (lv' := [(1, .int (nI (pt i))), (2, .int (nI i)), (0, .ref ph)]) hx hb dX2_met_40 rfl hl (by decide) rfl (fun ls hl => ?_)
            refine lv_iinc (v := nI (i + 1)) (lv' := [(2, .int (nI (i + 1))), (1, .int (nI (pt i))), (0, .ref ph)]) hx hb dX2_met_41 hl (k := 1) rfl (nI_add _ _) (by decide) rfl (fun ls hl => ?_)
            refine lv_goto (tgt := 4) hx hb dX2_met_44 (by decide) ?_
            exact ih4 (i + 1) (pt i) (by omega) (by omega) (by rw [mnN, if_pos ⟨by omega, c27⟩]) _ _ _ hP hD hS (lv_sub hl [0, 1, 2] rfl)
  exact lp4 _ 0 4 (Nat.lt_succ_self _) (by omega) rfl _ _ _ hP hD hS (lv_sub hl [0, 1, 2] rfl)
set_option maxHeartbeats 4000000 in
set_option maxRecDepth 100000 in
theorem m_X2_goesAhead__2 (l : Launch) (G : GG) (ph : Nat) (pd : Nat → Nat) (nr : Nat) (nc : Nat) (pL : Nat → Nat) (pG : Nat → Nat) (pB : Nat → Bool) (pk : Nat → Int32) (pa : Nat → Nat) (pt : Nat → Nat) (pm : Nat) (xs : List ((Nat → Nat) × Nat)) (hd : 2 ≤ nr ∧ nr ≤ 3 ∧ 2 ≤ nc ∧ nc ≤ 3) (hH : HoldA xs pa pt pm) (hlen : xs.length + 1 ≤ 157) (hL : ∀ i, pL i < 65536) : MM l G yX2_goesAhead cX2_goesAhead 4 none ⟨2, 0, 0, 40⟩ [.ref ph, .int (nI 2), .int (nI 2)] (PW G ph pd nr nc pL pG pB pk pa pt pm) (Qv_ G (fun (u : (Nat → Nat) × (Nat → Nat) × (Nat)) => HoldA (xs ++ dfN nr nc pB 0 2 pL) u.1 u.2.1 u.2.2) (fun (u : (Nat → Nat) × (Nat → Nat) × (Nat)) => (PW G ph pd nr nc pL pG pB pk u.1 u.2.1 u.2.2))) := by
  refine MM.of (by decide) (Nat.le_of_ble_eq_true rfl) ?_
  intro p e s m args below meth cd A C hini hA hK hZ hP hD ls hl
  generalize hQ : MQ below ((Qv_ G (fun (u : (Nat → Nat) × (Nat → Nat) × (Nat)) => HoldA (xs ++ dfN nr nc pB 0 2 pL) u.1 u.2.1 u.2.2) (fun (u : (Nat → Nat) × (Nat → Nat) × (Nat)) => (PW G ph pd nr nc pL pG pB pk u.1 u.2.1 u.2.2))) A) args s (⟨2, 0, 0, 40⟩ : Room).cells (⟨2, 0, 0, 40⟩ : Room).slots A = Q
  obtain ⟨hx, hb, hr, hts, hown, hlk, hml⟩ := C
  have hown : s.vm.findClass RX2 = some m.cls := hown
  have hS : va_S A s.heap s.heap [] := va_S.rf
  have hl : lv_has ls 4 [(0, .ref ph), (1, .int (nI 2)), (2, .int (nI 2))] := hl
  have hmu := dm_mul hd
  refine lv_aload_n hx hb dX2_goesAhead_0 rfl (lv_at hl 0 rfl) ?_
  refine lv_iload_n hx hb dX2_goesAhead_1 rfl (lv_at hl 1 rfl) ?_
  refine callVv (As := [.int (nI 2)]) (rest := []) (wc := (PW G ph pd nr nc pL pG pB pk pa pt pm)) (wr := ([] : va_W)) ⟨hx, hb, hml, hown, hts⟩ (m_X2_addsAhead l G ph pd nr nc pL pG pB pk pa pt pm 2 (by have := hH.1; omega) (by first | assumption | omega)) (cwV 1 hts (lw_V q1017 q1019 qs9 q89 q1020) rfl rfl rfl (by decide +kernel) ⟨Nat.le_of_ble_eq_true rfl, Nat.le_of_ble_eq_true rfl⟩) hK hZ hA hP hD hS [0, 1, 2, 3, 4, 5] [] rfl rfl (by decide) (by decide) (by decide) 0 1 rfl rfl rfl hl.1 (Nat.le_of_ble_eq_true rfl) ⟨Nat.le_of_ble_eq_true rfl, Nat.le_of_ble_eq_true rfl⟩ rfl dX2_goesAhead_2 (fun u9 H locs hw9 hP hD hS => ?_)
  have hP : va_P G.1 CL (PW G ph pd nr nc pL pG pB pk (va_cpy pL pa 0 (9 * pm) 9) (va_up pt pm 2) (pm + 1)) _ := hP
  have hD : va_D A (PW G ph pd nr nc pL pG pB pk (va_cpy pL pa 0 (9 * pm) 9) (va_up pt pm 2) (pm + 1)) := hD
  refine lv_iconst (v := nI 0) hx hb dX2_goesAhead_5 (by decide) ?_
  refine lv_istore_n (lv' := [(3, .int (nI 0)), (0, .ref ph), (1, .int (nI 2)), (2, .int (nI 2))]) hx hb dX2_goesAhead_6 rfl hl (by decide) rfl (fun ls hl => ?_)
  refine lv_iload_n hx hb dX2_goesAhead_7 rfl (lv_at hl 0 rfl) ?_
  refine lv_aload_n hx hb dX2_goesAhead_8 rfl (lv_at hl 1 rfl) ?_
  refine callVi (As := []) (rest := [.int (nI 0)]) (wc := (PW G ph pd nr nc pL pG pB pk (va_cpy pL pa 0 (9 * pm) 9) (va_up pt pm 2) (pm + 1))) (wr := ([] : va_W)) ⟨hx, hb, hml, hown, hts⟩ (m_X2_turns l G ph pd nr nc pL pG pB pk (va_cpy pL pa 0 (9 * pm) 9) (va_up pt pm 2) (pm + 1) ) (cwV 0 hts (lw_V q1022 q1023 q1024 q89 q1025) rfl rfl rfl (by decide +kernel) ⟨Nat.le_of_ble_eq_true rfl, Nat.le_of_ble_eq_true rfl⟩) hK hZ hA hP hD hS [0, 1, 2, 3, 4, 5] [] rfl rfl (by decide) (by decide) (by decide) 0 1 rfl rfl rfl hl.1 (Nat.le_of_ble_eq_true rfl) ⟨Nat.le_of_ble_eq_true rfl, Nat.le_of_ble_eq_true rfl⟩ rfl dX2_goesAhead_9 (fun r9 u9 H locs hw9 hP hD hS => ?_)
  subst hw9
  have hP : va_P G.1 CL (PW G ph pd nr nc pL pG pB pk (va_cpy pL pa 0 (9 * pm) 9) (va_up pt pm 2) (pm + 1)) _ := hP
  have hD : va_D A (PW G ph pd nr nc pL pG pB pk (va_cpy pL pa 0 (9 * pm) 9) (va_up pt pm 2) (pm + 1)) := hD
  refine n_cmp_ge (tgt := 63) hx hb dX2_goesAhead_12 (by decide) (by omega) (by omega) (fun c12 => ?_) (fun c12 => ?_)
  · skip
    subst hQ
    exact ret_v hx hb hr hlk (⟨(va_cpy pL pa 0 (9 * pm) 9), (va_up pt pm 2), (pm + 1)⟩) (hH.push hL (by decide)) hP hD hS dX2_goesAhead_63
  · skip
    refine lv_iload_n hx hb dX2_goesAhead_15 rfl (lv_at hl 2 rfl) ?_
    refine lv_iload_n hx hb dX2_goesAhead_16 rfl (lv_at hl 3 rfl) ?_
    refine n_cmp_ge (tgt := 63) hx hb dX2_goesAhead_17 (by decide) (by decide) (by decide) (fun c17 => ?_) (fun c17 => ?_)
    rotate_left
    · exact absurd c17 (by decide)
    subst hQ
    exact ret_v hx hb hr hlk (⟨(va_cpy pL pa 0 (9 * pm) 9), (va_up pt pm 2), (pm + 1)⟩) (hH.push hL (by decide)) hP hD hS dX2_goesAhead_63
set_option maxHeartbeats 4000000 in
set_option maxRecDepth 100000 in
theorem m_X2_goesAhead__1 (l : Launch) (G : GG) (ph : Nat) (pd : Nat → Nat) (nr : Nat) (nc : Nat) (pL : Nat → Nat) (pG : Nat → Nat) (pB : Nat → Bool) (pk : Nat → Int32) (pa : Nat → Nat) (pt : Nat → Nat) (pm : Nat) (xs : List ((Nat → Nat) × Nat)) (hd : 2 ≤ nr ∧ nr ≤ 3 ∧ 2 ≤ nc ∧ nc ≤ 3) (hH : HoldA xs pa pt pm) (hlen : xs.length + 13 ≤ 157) (hL : ∀ i, pL i < 65536) : MM l G yX2_goesAhead cX2_goesAhead 4 none ⟨3, 0, 0, 63⟩ [.ref ph, .int (nI 1), .int (nI 2)] (PW G ph pd nr nc pL pG pB pk pa pt pm) (Qv_ G (fun (u : (Nat → Nat) × (Nat → Nat) × (Nat)) => HoldA (xs ++ dfN nr nc pB 1 1 pL) u.1 u.2.1 u.2.2) (fun (u : (Nat → Nat) × (Nat → Nat) × (Nat)) => (PW G ph pd nr nc pL pG pB pk u.1 u.2.1 u.2.2))) := by
  refine MM.of (by decide) (Nat.le_of_ble_eq_true rfl) ?_
  intro p e s m args below meth cd A C hini hA hK hZ hP hD ls hl
  generalize hQ : MQ below ((Qv_ G (fun (u : (Nat → Nat) × (Nat → Nat) × (Nat)) => HoldA (xs ++ dfN nr nc pB 1 1 pL) u.1 u.2.1 u.2.2) (fun (u : (Nat → Nat) × (Nat → Nat) × (Nat)) => (PW G ph pd nr nc pL pG pB pk u.1 u.2.1 u.2.2))) A) args s (⟨3, 0, 0, 63⟩ : Room).cells (⟨3, 0, 0, 63⟩ : Room).slots A = Q
  obtain ⟨hx, hb, hr, hts, hown, hlk, hml⟩ := C
  have hown : s.vm.findClass RX2 = some m.cls := hown
  have hS : va_S A s.heap s.heap [] := va_S.rf
  have hl : lv_has ls 4 [(0, .ref ph), (1, .int (nI 1)), (2, .int (nI 2))] := hl
  have hmu := dm_mul hd
  refine lv_aload_n hx hb dX2_goesAhead_0 rfl (lv_at hl 0 rfl) ?_
  refine lv_iload_n hx hb dX2_goesAhead_1 rfl (lv_at hl 1 rfl) ?_
  refine callVv (As := [.int (nI 1)]) (rest := []) (wc := (PW G ph pd nr nc pL pG pB pk pa pt pm)) (wr := ([] : va_W)) ⟨hx, hb, hml, hown, hts⟩ (m_X2_addsAhead l G ph pd nr nc pL pG pB pk pa pt pm 1 (by have := hH.1; omega) (by first | assumption | omega)) (cwV 1 hts (lw_V q1017 q1019 qs9 q89 q1020) rfl rfl rfl (by decide +kernel) ⟨Nat.le_of_ble_eq_true rfl, Nat.le_of_ble_eq_true rfl⟩) hK hZ hA hP hD hS [0, 1, 2, 3, 4, 5] [] rfl rfl (by decide) (by decide) (by decide) 0 1 rfl rfl rfl hl.1 (Nat.le_of_ble_eq_true rfl) ⟨Nat.le_of_ble_eq_true rfl, Nat.le_of_ble_eq_true rfl⟩ rfl dX2_goesAhead_2 (fun u9 H locs hw9 hP hD hS => ?_)
  have hP : va_P G.1 CL (PW G ph pd nr nc pL pG pB pk (va_cpy pL pa 0 (9 * pm) 9) (va_up pt pm 1) (pm + 1)) _ := hP
  have hD : va_D A (PW G ph pd nr nc pL pG pB pk (va_cpy pL pa 0 (9 * pm) 9) (va_up pt pm 1) (pm + 1)) := hD
  refine lv_iconst (v := nI 0) hx hb dX2_goesAhead_5 (by decide) ?_
  refine lv_istore_n (lv' := [(3, .int (nI 0)), (0, .ref ph), (1, .int (nI 1)), (2, .int (nI 2))]) hx hb dX2_goesAhead_6 rfl hl (by decide) rfl (fun ls hl => ?_)
  have lp7 : ∀ (f : Nat) (t : Nat) (a2 : Nat → Nat) (t2 : Nat → Nat) (n2 : Nat), 2 * (nr + nc) - t < f → (t ≤ 2 * (nr + nc)) → (HoldA (xs ++ dfP nr nc pB 0 1 pL t) a2 t2 n2) → ∀ (H : Heap) (locs : List Loc) (ls : Array Slot), va_P G.1 CL (PW G ph pd nr nc pL pG pB pk a2 t2 n2) H → va_D A (PW G ph pd nr nc pL pG pB pk a2 t2 n2) → va_S A s.heap H locs → lv_has ls 4 [(3, .int (nI t)), (0, .ref ph), (1, .int (nI 1)), (2, .int (nI 2))] → W p l e (⟨3, 0, 0, 63⟩ : Room) s m args below meth cd H locs 0 0 Q (F0 m 7 ls []) := by
    intro f
    induction f with
    | zero => intro t a2 t2 n2 hf; exact absurd hf (Nat.not_lt_zero _)
    | succ f ih7 =>
      intro t a2 t2 n2 hf ht hI H locs ls hP hD hS hl
      refine lv_iload_n hx hb dX2_goesAhead_7 rfl (lv_at hl 0 rfl) ?_
      refine lv_aload_n hx hb dX2_goesAhead_8 rfl (lv_at hl 1 rfl) ?_
      refine callVi (As := []) (rest := [.int (nI t)]) (wc := (PW G ph pd nr nc pL pG pB pk a2 t2 n2)) (wr := ([] : va_W)) ⟨hx, hb, hml, hown, hts⟩ (m_X2_turns l G ph pd nr nc pL pG pB pk a2 t2 n2 ) (cwV 0 hts (lw_V q1022 q1023 q1024 q89 q1025) rfl rfl rfl (by decide +kernel) ⟨Nat.le_of_ble_eq_true rfl, Nat.le_of_ble_eq_true rfl⟩) hK hZ hA hP hD hS [0, 1, 2, 3, 4, 5] [] rfl rfl (by decide) (by decide) (by decide) 0 1 rfl rfl rfl hl.1 (Nat.le_of_ble_eq_true rfl) ⟨Nat.le_of_ble_eq_true rfl, Nat.le_of_ble_eq_true rfl⟩ rfl dX2_goesAhead_9 (fun r9 u9 H locs hw9 hP hD hS => ?_)
      subst hw9
      have hP : va_P G.1 CL (PW G ph pd nr nc pL pG pB pk a2 t2 n2) _ := hP
      have hD : va_D A (PW G ph pd nr nc pL pG pB pk a2 t2 n2) := hD
      refine n_cmp_ge (tgt := 63) hx hb dX2_goesAhead_12 (by decide) (by omega) (by omega) (fun c12 => ?_) (fun c12 => ?_)
      · skip
        subst hQ
        exact ret_v hx hb hr hlk (⟨a2, t2, n2⟩) (by have e : t = 2 * (nr + nc) := (by omega); rw [e] at hI; exact hI) hP hD hS dX2_goesAhead_63
      · skip
        refine lv_iload_n hx hb dX2_goesAhead_15 rfl (lv_at hl 2 rfl) ?_
        refine lv_iload_n hx hb dX2_goesAhead_16 rfl (lv_at hl 3 rfl) ?_
        refine n_cmp_ge (tgt := 63) hx hb dX2_goesAhead_17 (by decide) (by decide) (by decide) (fun c17 => ?_) (fun c17 => ?_)
        · exact absurd c17 (by decide)
        refine lv_aload_n hx hb dX2_goesAhead_20 rfl (lv_at hl 1 rfl) ?_
        refine lv_iload_n hx hb dX2_goesAhead_21 rfl (lv_at hl 0 rfl) ?_
        refine callVi (As := [.int (nI t)]) (rest := []) (wc := (PW G ph pd nr nc pL pG pB pk a2 t2 n2)) (wr := ([] : va_W)) ⟨hx, hb, hml, hown, hts⟩ (m_X2_can l G ph pd nr nc pL pG pB pk a2 t2 n2 t (by first | assumption | omega) (by first | assumption | omega)) (cwV 1 hts (lw_V q1027 q1028 q1029 q89 q1030) rfl rfl rfl (by decide +kernel) ⟨Nat.le_of_ble_eq_true rfl, Nat.le_of_ble_eq_true rfl⟩) hK hZ hA hP hD hS [0, 1, 2, 3, 4, 5] [] rfl rfl (by decide) (by decide) (by decide) 0 1 rfl rfl rfl hl.1 (Nat.le_of_ble_eq_true rfl) ⟨Nat.le_of_ble_eq_true rfl, Nat.le_of_ble_eq_true rfl⟩ rfl dX2_goesAhead_22 (fun r9 u9 H locs hw9 hP hD hS => ?_)
        subst hw9
        have hP : va_P G.1 CL (PW G ph pd nr nc pL pG pB pk a2 t2 n2) _ := hP
        have hD : va_D A (PW G ph pd nr nc pL pG pB pk a2 t2 n2) := hD
        refine b_if_eq (tgt := 57) hx hb dX2_goesAhead_25 (by decide) (fun c25 => ?_) (fun c25 => ?_)
        · skip
          refine lv_iinc (v := nI (t + 1)) (lv' := [(3, .int (nI (t + 1))), (0, .ref ph), (1, .int (nI 1)), (2, .int (nI 2))]) hx hb dX2_goesAhead_57 hl (k := 0) rfl (nI_add _ _) (by decide) rfl (fun ls hl => ?_)
          refine lv_goto (tgt := 7) hx hb dX2_goesAhead_60 (by decide) ?_
          exact ih7 (t + 1) a2 t2 n2 (by omega) (by omega) (by rw [dfP_t (by simpa using c25)]; exact hI) _ _ _ hP hD hS (lv_sub hl [0, 1, 2, 3] rfl)
        · skip
          refine lv_aload_n hx hb dX2_goesAhead_28 rfl (lv_at hl 1 rfl) ?_
          refine lv_aload_n hx hb dX2_goesAhead_29 rfl (lv_at hl 1 rfl) ?_
          refine va_get (D := G.1) (ci := 1) (v := .ref (pd 0)) (C := RX2) (T := TX2) (N := 14) hx hb hts in_X2 hown hK hP 0 rfl rfl 2 (by decide) (hts _ q145) (fun _ h9 => h9) rfl dX2_goesAhead_30 ?_
          refine lv_iload_n hx hb dX2_goesAhead_33 rfl (lv_at hl 0 rfl) ?_
          refine callVv (As := [.ref (pd 0), .int (nI t)]) (rest := []) (wc := (PW G ph pd nr nc pL pG pB pk a2 t2 n2)) (wr := ([] : va_W)) ⟨hx, hb, hml, hown, hts⟩ (m_X2_turns_2__L l G ph pd nr nc pL pG pB pk a2 t2 n2 t (by first | assumption | omega) (by first | assumption | omega) (by first | assumption | omega)) (cwV 2 hts (lw_V q1031 q1032 q1033 q89 q1034) rfl rfl rfl (by decide +kernel) ⟨Nat.le_of_ble_eq_true rfl, Nat.le_of_ble_eq_true rfl⟩) hK hZ hA hP hD hS [0, 1, 2, 3, 4, 5] [] rfl rfl (by decide) (by decide) (by decide) 0 1 rfl rfl rfl hl.1 (Nat.le_of_ble_eq_true rfl) ⟨Nat.le_of_ble_eq_true rfl, Nat.le_of_ble_eq_true rfl⟩ rfl dX2_goesAhead_34 (fun u9 H locs hw9 hP hD hS => ?_)
          have hP : va_P G.1 CL (PW G ph pd nr nc (tn nr nc t pL) pG pB pk a2 t2 n2) _ := hP
          have hD : va_D A (PW G ph pd nr nc (tn nr nc t pL) pG pB pk a2 t2 n2) := hD
          refine lv_aload_n hx hb dX2_goesAhead_37 rfl (lv_at hl 1 rfl) ?_
          refine lv_iload_n hx hb dX2_goesAhead_38 rfl (lv_at hl 2 rfl) ?_
          refine lv_iconst (v := nI 1) hx hb dX2_goesAhead_39 (by decide) ?_
          refine n_iadd hx hb dX2_goesAhead_40 ?_
          refine lv_iload_n hx hb dX2_goesAhead_41 rfl (lv_at hl 3 rfl) ?_
          refine callVv (As := [.int (nI 2), .int (nI 2)]) (rest := []) (wc := (PW G ph pd nr nc (tn nr nc t pL) pG pB pk a2 t2 n2)) (wr := ([] : va_W)) ⟨hx, hb, hml, hown, hts⟩ (m_X2_goesAhead__2 l G ph pd nr nc (tn nr nc t pL) pG pB pk a2 t2 n2 (xs ++ dfP nr nc pB 0 1 pL t) (by first | assumption | omega) hI (by rw [List.length_append]; have := dfP_len (nr := nr) (nc := nc) (B := pB) (L := pL) (by omega) 1 (fun L9 => dfN_len nr nc pB (by omega) 0 2 L9 (by decide)) t; omega) (tn_lt hL)) (cwV 2 hts (lw_V q1013 q1015 qs8 q89 q1016) rfl rfl rfl (by decide +kernel) ⟨Nat.le_of_ble_eq_true rfl, Nat.le_of_ble_eq_true rfl⟩) hK hZ hA hP hD hS [0, 1, 2, 3, 4, 5] [] rfl rfl (by decide) (by decide) (by decide) 0 1 rfl rfl rfl hl.1 (Nat.le_of_ble_eq_true rfl) ⟨Nat.le_of_ble_eq_true rfl, Nat.le_of_ble_eq_true rfl⟩ rfl dX2_goesAhead_42 (fun u9 H locs hw9 hP hD hS => ?_)
          obtain ⟨a1_5, t1_5, n1_5⟩ := u9
          have hw42 : HoldA ((xs ++ dfP nr nc pB 0 1 pL t) ++ dfN nr nc pB 0 2 (tn nr nc t pL)) a1_5 t1_5 n1_5 := hw9
          have hP : va_P G.1 CL (PW G ph pd nr nc (tn nr nc t pL) pG pB pk a1_5 t1_5 n1_5) _ := hP
          have hD : va_D A (PW G ph pd nr nc (tn nr nc t pL) pG pB pk a1_5 t1_5 n1_5) := hD
          refine lv_aload_n hx hb dX2_goesAhead_45 rfl (lv_at hl 1 rfl) ?_
          refine lv_aload_n hx hb dX2_goesAhead_46 rfl (lv_at hl 1 rfl) ?_
          refine va_get (D := G.1) (ci := 1) (v := .ref (pd 0)) (C := RX2) (T := TX2) (N := 14) hx hb hts in_X2 hown hK hP 0 rfl rfl 2 (by decide) (hts _ q145) (fun _ h9 => h9) rfl dX2_goesAhead_47 ?_
          refine lv_iload_n hx hb dX2_goesAhead_50 rfl (lv_at hl 0 rfl) ?_
          refine callSi (As := [.int (nI t)]) (rest := [.ref (pd 0), .ref ph]) (wc := ([] : va_W)) (wr := (PW G ph pd nr nc (tn nr nc t pL) pG pB pk a1_5 t1_5 n1_5)) ⟨hx, hb, hml, hown, hts⟩ (m_X2_back l G t (by first | assumption | omega)) (va_cwS 1 hts (lw_S q1035 q1036 q89 q1037) rfl rfl rfl (by decide +kernel) ⟨Nat.le_of_ble_eq_true rfl, Nat.le_of_ble_eq_true rfl⟩) hK hZ hA hP hD hS [] [0, 1, 2, 3, 4, 5] rfl rfl (by decide) (by decide) (by decide) rfl hl.1 (Nat.le_of_ble_eq_true rfl) ⟨Nat.le_of_ble_eq_true rfl, Nat.le_of_ble_eq_true rfl⟩ rfl dX2_goesAhead_51 (fun r9 u9 H locs hw9 hP hD hS => ?_)
          subst hw9
          have hP : va_P G.1 CL (PW G ph pd nr nc (tn nr nc t pL) pG pB pk a1_5 t1_5 n1_5) _ := hP
          have hD : va_D A (PW G ph pd nr nc (tn nr nc t pL) pG pB pk a1_5 t1_5 n1_5) := hD
          refine callVv (As := [.ref (pd 0), .int (nI (bk t))]) (rest := []) (wc := (PW G ph pd nr nc (tn nr nc t pL) pG pB pk a1_5 t1_5 n1_5)) (wr := ([] : va_W)) ⟨hx, hb, hml, hown, hts⟩ (m_X2_turns_2__L l G ph pd nr nc (tn nr nc t pL) pG pB pk a1_5 t1_5 n1_5 (bk t) (by first | assumption | omega) (bk_lt hd (by omega)).1 (tn_lt hL)) (cwV 2 hts (lw_V q1031 q1032 q1033 q89 q1034) rfl rfl rfl (by decide +kernel) ⟨Nat.le_of_ble_eq_true rfl, Nat.le_of_ble_eq_true rfl⟩) hK hZ hA hP hD hS [0, 1, 2, 3, 4, 5] [] rfl rfl (by decide) (by decide) (by decide) 0 1 rfl rfl rfl hl.1 (Nat.le_of_ble_eq_true rfl) ⟨Nat.le_of_ble_eq_true rfl, Nat.le_of_ble_eq_true rfl⟩ rfl dX2_goesAhead_54 (fun u9 H locs hw9 hP hD hS => ?_)
          have hP : va_P G.1 CL (PW G ph pd nr nc (tn nr nc (bk t) (tn nr nc t pL)) pG pB pk a1_5 t1_5 n1_5) _ := hP
          have hD : va_D A (PW G ph pd nr nc (tn nr nc (bk t) (tn nr nc t pL)) pG pB pk a1_5 t1_5 n1_5) := hD
          rw [show (tn nr nc (bk t) (tn nr nc t pL)) = pL from (tn_bk hd (by omega) pL)] at hP hD
          refine lv_iinc (v := nI (t + 1)) (lv' := [(3, .int (nI (t + 1))), (0, .ref ph), (1, .int (nI 1)), (2, .int (nI 2))]) hx hb dX2_goesAhead_57 hl (k := 0) rfl (nI_add _ _) (by decide) rfl (fun ls hl => ?_)
          refine lv_goto (tgt := 7) hx hb dX2_goesAhead_60 (by decide) ?_
          exact ih7 (t + 1) a1_5 t1_5 n1_5 (by omega) (by omega) (by rw [dfP_f (by simpa using c25), ← List.append_assoc]; exact hw42) _ _ _ hP hD hS (lv_sub hl [0, 1, 2, 3] rfl)
  exact lp7 _ 0 (va_cpy pL pa 0 (9 * pm) 9) (va_up pt pm 1) (pm + 1) (Nat.lt_succ_self _) (by omega) (hH.push hL (by decide)) _ _ _ hP hD hS (lv_sub hl [0, 1, 2, 3] rfl)
set_option maxHeartbeats 4000000 in
set_option maxRecDepth 100000 in
theorem m_X2_goesAhead__0 (l : Launch) (G : GG) (ph : Nat) (pd : Nat → Nat) (nr : Nat) (nc : Nat) (pL : Nat → Nat) (pG : Nat → Nat) (pB : Nat → Bool) (pk : Nat → Int32) (pa : Nat → Nat) (pt : Nat → Nat) (pm : Nat) (xs : List ((Nat → Nat) × Nat)) (hd : 2 ≤ nr ∧ nr ≤ 3 ∧ 2 ≤ nc ∧ nc ≤ 3) (hH : HoldA xs pa pt pm) (hlen : xs.length + 157 ≤ 157) (hL : ∀ i, pL i < 65536) : MM l G yX2_goesAhead cX2_goesAhead 4 none ⟨4, 0, 0, 86⟩ [.ref ph, .int (nI 0), .int (nI 2)] (PW G ph pd nr nc pL pG pB pk pa pt pm) (Qv_ G (fun (u : (Nat → Nat) × (Nat → Nat) × (Nat)) => HoldA (xs ++ dfN nr nc pB 2 0 pL) u.1 u.2.1 u.2.2) (fun (u : (Nat → Nat) × (Nat → Nat) × (Nat)) => (PW G ph pd nr nc pL pG pB pk u.1 u.2.1 u.2.2))) := by
  refine MM.of (by decide) (Nat.le_of_ble_eq_true rfl) ?_
  intro p e s m args below meth cd A C hini hA hK hZ hP hD ls hl
  generalize hQ : MQ below ((Qv_ G (fun (u : (Nat → Nat) × (Nat → Nat) × (Nat)) => HoldA (xs ++ dfN nr nc pB 2 0 pL) u.1 u.2.1 u.2.2) (fun (u : (Nat → Nat) × (Nat → Nat) × (Nat)) => (PW G ph pd nr nc pL pG pB pk u.1 u.2.1 u.2.2))) A) args s (⟨4, 0, 0, 86⟩ : Room).cells (⟨4, 0, 0, 86⟩ : Room).slots A = Q
  obtain ⟨hx, hb, hr, hts, hown, hlk, hml⟩ := C
  have hown : s.vm.findClass RX2 = some m.cls := hown
  have hS : va_S A s.heap s.heap [] := va_S.rf
  have hl : lv_has ls 4 [(0, .ref ph), (1, .int (nI 0)), (2, .int (nI 2))] := hl
  have hmu := dm_mul hd
  refine lv_aload_n hx hb dX2_goesAhead_0 rfl (lv_at hl 0 rfl) ?_
  refine lv_iload_n hx hb dX2_goesAhead_1 rfl (lv_at hl 1 rfl) ?_
  refine callVv (As := [.int (nI 0)]) (rest := []) (wc := (PW G ph pd nr nc pL pG pB pk pa pt pm)) (wr := ([] : va_W)) ⟨hx, hb, hml, hown, hts⟩ (m_X2_addsAhead l G ph pd nr nc pL pG pB pk pa pt pm 0 (by have := hH.1; omega) (by first | assumption | omega)) (cwV 1 hts (lw_V q1017 q1019 qs9 q89 q1020) rfl rfl rfl (by decide +kernel) ⟨Nat.le_of_ble_eq_true rfl, Nat.le_of_ble_eq_true rfl⟩) hK hZ hA hP hD hS [0, 1, 2, 3, 4, 5] [] rfl rfl (by decide) (by decide) (by decide) 0 1 rfl rfl rfl hl.1 (Nat.le_of_ble_eq_true rfl) ⟨Nat.le_of_ble_eq_true rfl, Nat.le_of_ble_eq_true rfl⟩ rfl dX2_goesAhead_2 (fun u9 H locs hw9 hP hD hS => ?_)
  have hP : va_P G.1 CL (PW G ph pd nr nc pL pG pB pk (va_cpy pL pa 0 (9 * pm) 9) (va_up pt pm 0) (pm + 1)) _ := hP
  have hD : va_D A (PW G ph pd nr nc pL pG pB pk (va_cpy pL pa 0 (9 * pm) 9) (va_up pt pm 0) (pm + 1)) := hD
  refine lv_iconst (v := nI 0) hx hb dX2_goesAhead_5 (by decide) ?_
  refine lv_istore_n (lv' := [(3, .int (nI 0)), (0, .ref ph), (1, .int (nI 0)), (2, .int (nI 2))]) hx hb dX2_goesAhead_6 rfl hl (by decide) rfl (fun ls hl => ?_)
  have lp7 : ∀ (f : Nat) (t : Nat) (a2 : Nat → Nat) (t2 : Nat → Nat) (n2 : Nat), 2 * (nr + nc) - t < f → (t ≤ 2 * (nr + nc)) → (HoldA (xs ++ dfP nr nc pB 1 0 pL t) a2 t2 n2) → ∀ (H : Heap) (locs : List Loc) (ls : Array Slot), va_P G.1 CL (PW G ph pd nr nc pL pG pB pk a2 t2 n2) H → va_D A (PW G ph pd nr nc pL pG pB pk a2 t2 n2) → va_S A s.heap H locs → lv_has ls 4 [(3, .int (nI t)), (0, .ref ph), (1, .int (nI 0)), (2, .int (nI 2))] → W p l e (⟨4, 0, 0, 86⟩ : Room) s m args below meth cd H locs 0 0 Q (F0 m 7 ls []) := by
    intro f
    induction f with
    | zero => intro t a2 t2 n2 hf; exact absurd hf (Nat.not_lt_zero _)
    | succ f ih7 =>
      intro t a2 t2 n2 hf ht hI H locs ls hP hD hS hl
      refine lv_iload_n hx hb dX2_goesAhead_7 rfl (lv_at hl 0 rfl) ?_
      refine lv_aload_n hx hb dX2_goesAhead_8 rfl (lv_at hl 1 rfl) ?_
      refine callVi (As := []) (rest := [.int (nI t)]) (wc := (PW G ph pd nr nc pL pG pB pk a2 t2 n2)) (wr := ([] : va_W)) ⟨hx, hb, hml, hown, hts⟩ (m_X2_turns l G ph pd nr nc pL pG pB pk a2 t2 n2 ) (cwV 0 hts (lw_V q1022 q1023 q1024 q89 q1025) rfl rfl rfl (by decide +kernel) ⟨Nat.le_of_ble_eq_true rfl, Nat.le_of_ble_eq_true rfl⟩) hK hZ hA hP hD hS [0, 1, 2, 3, 4, 5] [] rfl rfl (by decide) (by decide) (by decide) 0 1 rfl rfl rfl hl.1 (Nat.le_of_ble_eq_true rfl) ⟨Nat.le_of_ble_eq_true rfl, Nat.le_of_ble_eq_true rfl⟩ rfl dX2_goesAhead_9 (fun r9 u9 H locs hw9 hP hD hS => ?_)
      subst hw9
      have hP : va_P G.1 CL (PW G ph pd nr nc pL pG pB pk a2 t2 n2) _ := hP
      have hD : va_D A (PW G ph pd nr nc pL pG pB pk a2 t2 n2) := hD
      refine n_cmp_ge (tgt := 63) hx hb dX2_goesAhead_12 (by decide) (by omega) (by omega) (fun c12 => ?_) (fun c12 => ?_)
      · skip
        subst hQ
        exact ret_v hx hb hr hlk (⟨a2, t2, n2⟩) (by have e : t = 2 * (nr + nc) := (by omega); rw [e] at hI; exact hI) hP hD hS dX2_goesAhead_63
      · skip
        refine lv_iload_n hx hb dX2_goesAhead_15 rfl (lv_at hl 2 rfl) ?_
        refine lv_iload_n hx hb dX2_goesAhead_16 rfl (lv_at hl 3 rfl) ?_
        refine n_cmp_ge (tgt := 63) hx hb dX2_goesAhead_17 (by decide) (by decide) (by decide) (fun c17 => ?_) (fun c17 => ?_)
        · exact absurd c17 (by decide)
        refine lv_aload_n hx hb dX2_goesAhead_20 rfl (lv_at hl 1 rfl) ?_
        refine lv_iload_n hx hb dX2_goesAhead_21 rfl (lv_at hl 0 rfl) ?_
        refine callVi (As := [.int (nI t)]) (rest := []) (wc := (PW G ph pd nr nc pL pG pB pk a2 t2 n2)) (wr := ([] : va_W)) ⟨hx, hb, hml, hown, hts⟩ (m_X2_can l G ph pd nr nc pL pG pB pk a2 t2 n2 t (by first | assumption | omega) (by first | assumption | omega)) (cwV 1 hts (lw_V q1027 q1028 q1029 q89 q1030) rfl rfl rfl (by decide +kernel) ⟨Nat.le_of_ble_eq_true rfl, Nat.le_of_ble_eq_true rfl⟩) hK hZ hA hP hD hS [0, 1, 2, 3, 4, 5] [] rfl rfl (by decide) (by decide) (by decide) 0 1 rfl rfl rfl hl.1 (Nat.le_of_ble_eq_true rfl) ⟨Nat.le_of_ble_eq_true rfl, Nat.le_of_ble_eq_true rfl⟩ rfl dX2_goesAhead_22 (fun r9 u9 H locs hw9 hP hD hS => ?_)
        subst hw9
        have hP : va_P G.1 CL (PW G ph pd nr nc pL pG pB pk a2 t2 n2) _ := hP
        have hD : va_D A (PW G ph pd nr nc pL pG pB pk a2 t2 n2) := hD
        refine b_if_eq (tgt := 57) hx hb dX2_goesAhead_25 (by decide) (fun c25 => ?_) (fun c25 => ?_)
        · skip
          refine lv_iinc (v := nI (t + 1)) (lv' := [(3, .int (nI (t + 1))), (0, .ref ph), (1, .int (nI 0)), (2, .int (nI 2))]) hx hb dX2_goesAhead_57 hl (k := 0) rfl (nI_add _ _) (by decide) rfl (fun ls hl => ?_)
          refine lv_goto (tgt := 7) hx hb dX2_goesAhead_60 (by decide) ?_
          exact ih7 (t + 1) a2 t2 n2 (by omega) (by omega) (by rw [dfP_t (by simpa using c25)]; exact hI) _ _ _ hP hD hS (lv_sub hl [0, 1, 2, 3] rfl)
        · skip
          refine lv_aload_n hx hb dX2_goesAhead_28 rfl (lv_at hl 1 rfl) ?_
          refine lv_aload_n hx hb dX2_goesAhead_29 rfl (lv_at hl 1 rfl) ?_
          refine va_get (D := G.1) (ci := 1) (v := .ref (pd 0)) (C := RX2) (T := TX2) (N := 14) hx hb hts in_X2 hown hK hP 0 rfl rfl 2 (by decide) (hts _ q145) (fun _ h9 => h9) rfl dX2_goesAhead_30 ?_
          refine lv_iload_n hx hb dX2_goesAhead_33 rfl (lv_at hl 0 rfl) ?_
          refine callVv (As := [.ref (pd 0), .int (nI t)]) (rest := []) (wc := (PW G ph pd nr nc pL pG pB pk a2 t2 n2)) (wr := ([] : va_W)) ⟨hx, hb, hml, hown, hts⟩ (m_X2_turns_2__L l G ph pd nr nc pL pG pB pk a2 t2 n2 t (by first | assumption | omega) (by first | assumption | omega) (by first | assumption | omega)) (cwV 2 hts (lw_V q1031 q1032 q1033 q89 q1034) rfl rfl rfl (by decide +kernel) ⟨Nat.le_of_ble_eq_true rfl, Nat.le_of_ble_eq_true rfl⟩) hK hZ hA hP hD hS [0, 1, 2, 3, 4, 5] [] rfl rfl (by decide) (by decide) (by decide) 0 1 rfl rfl rfl hl.1 (Nat.le_of_ble_eq_true rfl) ⟨Nat.le_of_ble_eq_true rfl, Nat.le_of_ble_eq_true rfl⟩ rfl dX2_goesAhead_34 (fun u9 H locs hw9 hP hD hS => ?_)
          have hP : va_P G.1 CL (PW G ph pd nr nc (tn nr nc t pL) pG pB pk a2 t2 n2) _ := hP
          have hD : va_D A (PW G ph pd nr nc (tn nr nc t pL) pG pB pk a2 t2 n2) := hD
          refine lv_aload_n hx hb dX2_goesAhead_37 rfl (lv_at hl 1 rfl) ?_
          refine lv_iload_n hx hb dX2_goesAhead_38 rfl (lv_at hl 2 rfl) ?_
          refine lv_iconst (v := nI 1) hx hb dX2_goesAhead_39 (by decide) ?_
          refine n_iadd hx hb dX2_goesAhead_40 ?_
          refine lv_iload_n hx hb dX2_goesAhead_41 rfl (lv_at hl 3 rfl) ?_
          refine callVv (As := [.int (nI 1), .int (nI 2)]) (rest := []) (wc := (PW G ph pd nr nc (tn nr nc t pL) pG pB pk a2 t2 n2)) (wr := ([] : va_W)) ⟨hx, hb, hml, hown, hts⟩ (m_X2_goesAhead__1 l G ph pd nr nc (tn nr nc t pL) pG pB pk a2 t2 n2 (xs ++ dfP nr nc pB 1 0 pL t) (by first | assumption | omega) hI (by rw [List.length_append]; have := dfP_len (nr := nr) (nc := nc) (B := pB) (L := pL) (by omega) 13 (fun L9 => dfN_len nr nc pB (by omega) 1 1 L9 (by decide)) t; omega) (tn_lt hL)) (cwV 2 hts (lw_V q1013 q1015 qs8 q89 q1016) rfl rfl rfl (by decide +kernel) ⟨Nat.le_of_ble_eq_true rfl, Nat.le_of_ble_eq_true rfl⟩) hK hZ hA hP hD hS [0, 1, 2, 3, 4, 5] [] rfl rfl (by decide) (by decide) (by decide) 0 1 rfl rfl rfl hl.1 (Nat.le_of_ble_eq_true rfl) ⟨Nat.le_of_ble_eq_true rfl, Nat.le_of_ble_eq_true rfl⟩ rfl dX2_goesAhead_42 (fun u9 H locs hw9 hP hD hS => ?_)
          obtain ⟨a1_5, t1_5, n1_5⟩ := u9
          have hw42 : HoldA ((xs ++ dfP nr nc pB 1 0 pL t) ++ dfN nr nc pB 1 1 (tn nr nc t pL)) a1_5 t1_5 n1_5 := hw9
          have hP : va_P G.1 CL (PW G ph pd nr nc (tn nr nc t pL) pG pB pk a1_5 t1_5 n1_5) _ := hP
          have hD : va_D A (PW G ph pd nr nc (tn nr nc t pL) pG pB pk a1_5 t1_5 n1_5) := hD
          refine lv_aload_n hx hb dX2_goesAhead_45 rfl (lv_at hl 1 rfl) ?_
          refine lv_aload_n hx hb dX2_goesAhead_46 rfl (lv_at hl 1 rfl) ?_
          refine va_get (D := G.1) (ci := 1) (v := .ref (pd 0)) (C := RX2) (T := TX2) (N := 14) hx hb hts in_X2 hown hK hP 0 rfl rfl 2 (by decide) (hts _ q145) (fun _ h9 => h9) rfl dX2_goesAhead_47 ?_
          refine lv_iload_n hx hb dX2_goesAhead_50 rfl (lv_at hl 0 rfl) ?_
          refine callSi (As := [.int (nI t)]) (rest := [.ref (pd 0), .ref ph]) (wc := ([] : va_W)) (wr := (PW G ph pd nr nc (tn nr nc t pL) pG pB pk a1_5 t1_5 n1_5)) ⟨hx, hb, hml, hown, hts⟩ (m_X2_back l G t (by first | assumption | omega)) (va_cwS 1 hts (lw_S q1035 q1036 q89 q1037) rfl rfl rfl (by decide +kernel) ⟨Nat.le_of_ble_eq_true rfl, Nat.le_of_ble_eq_true rfl⟩) hK hZ hA hP hD hS [] [0, 1, 2, 3, 4, 5] rfl rfl (by decide) (by decide) (by decide) rfl hl.1 (Nat.le_of_ble_eq_true rfl) ⟨Nat.le_of_ble_eq_true rfl, Nat.le_of_ble_eq_true rfl⟩ rfl dX2_goesAhead_51 (fun r9 u9 H locs hw9 hP hD hS => ?_)
          subst hw9
          have hP : va_P G.1 CL (PW G ph pd nr nc (tn nr nc t pL) pG pB pk a1_5 t1_5 n1_5) _ := hP
          have hD : va_D A (PW G ph pd nr nc (tn nr nc t pL) pG pB pk a1_5 t1_5 n1_5) := hD
          refine callVv (As := [.ref (pd 0), .int (nI (bk t))]) (rest := []) (wc := (PW G ph pd nr nc (tn nr nc t pL) pG pB pk a1_5 t1_5 n1_5)) (wr := ([] : va_W)) ⟨hx, hb, hml, hown, hts⟩ (m_X2_turns_2__L l G ph pd nr nc (tn nr nc t pL) pG pB pk a1_5 t1_5 n1_5 (bk t) (by first | assumption | omega) (bk_lt hd (by omega)).1 (tn_lt hL)) (cwV 2 hts (lw_V q1031 q1032 q1033 q89 q1034) rfl rfl rfl (by decide +kernel) ⟨Nat.le_of_ble_eq_true rfl, Nat.le_of_ble_eq_true rfl⟩) hK hZ hA hP hD hS [0, 1, 2, 3, 4, 5] [] rfl rfl (by decide) (by decide) (by decide) 0 1 rfl rfl rfl hl.1 (Nat.le_of_ble_eq_true rfl) ⟨Nat.le_of_ble_eq_true rfl, Nat.le_of_ble_eq_true rfl⟩ rfl dX2_goesAhead_54 (fun u9 H locs hw9 hP hD hS => ?_)
          have hP : va_P G.1 CL (PW G ph pd nr nc (tn nr nc (bk t) (tn nr nc t pL)) pG pB pk a1_5 t1_5 n1_5) _ := hP
          have hD : va_D A (PW G ph pd nr nc (tn nr nc (bk t) (tn nr nc t pL)) pG pB pk a1_5 t1_5 n1_5) := hD
          rw [show (tn nr nc (bk t) (tn nr nc t pL)) = pL from (tn_bk hd (by omega) pL)] at hP hD
          refine lv_iinc (v := nI (t + 1)) (lv' := [(3, .int (nI (t + 1))), (0, .ref ph), (1, .int (nI 0)), (2, .int (nI 2))]) hx hb dX2_goesAhead_57 hl (k := 0) rfl (nI_add _ _) (by decide) rfl (fun ls hl => ?_)
          refine lv_goto (tgt := 7) hx hb dX2_goesAhead_60 (by decide) ?_
          exact ih7 (t + 1) a1_5 t1_5 n1_5 (by omega) (by omega) (by rw [dfP_f (by simpa using c25), ← List.append_assoc]; exact hw42) _ _ _ hP hD hS (lv_sub hl [0, 1, 2, 3] rfl)
  exact lp7 _ 0 (va_cpy pL pa 0 (9 * pm) 9) (va_up pt pm 0) (pm + 1) (Nat.lt_succ_self _) (by omega) (hH.push hL (by decide)) _ _ _ hP hD hS (lv_sub hl [0, 1, 2, 3] rfl)
