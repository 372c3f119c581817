abbrev DOW (G : GG) (h v hd tl : Nat) : va_W := [(h, .inr (8, [.ref v, .int (nI hd), .int (nI tl)]))]
abbrev QAW (G : GG) (h : Nat) (B : Nat → Option Nat) : va_W := [(h, .inl (G.2.1 6, 17, .inr (.inr (.inr (.inr B)))))]
/-- a deque's two cells: (its places' place, head, tail, places) -/
abbrev DQZ : Type := Nat × Nat × Nat × (Nat → Option Nat)
abbrev DQB (G : GG) (h : Nat) (z : DQZ) : va_W := [(h, .inr (8, [.ref z.1, .int (nI z.2.1), .int (nI z.2.2.1)])), (z.1, .inl (G.2.1 6, 17, .inr (.inr (.inr (.inr z.2.2.2)))))]
def DQR (hd tl : Nat) (g : Nat → Option Nat) (xs : List Nat) : Prop := hd < 17 ∧ xs.length ≤ 16 ∧ tl = (hd + xs.length) % 17 ∧ ∀ i, i < 17 → g ((hd + i) % 17) = xs[i]?
def DQh (z : DQZ) (xs : List Nat) : Prop := DQR z.2.1 z.2.2.1 z.2.2.2 xs
def dcN : Nat → Nat → Nat
  | 0, z => z - 1
  | i + 1, _ => i
def sbN (i j z : Nat) : Nat := if j ≤ i then i - j else i + z - j
theorem DQR.tl {hd tl : Nat} {g : Nat → Option Nat} {xs : List Nat} (h : DQR hd tl g xs) : tl < 17 := by rw [h.2.2.1]; exact Nat.mod_lt _ (by decide)
theorem DQR.size {hd tl : Nat} {g : Nat → Option Nat} {xs : List Nat} (h : DQR hd tl g xs) : sbN tl hd 17 = xs.length := by
  obtain ⟨h1, h2, h3, -⟩ := h
  unfold sbN; split <;> omega
theorem DQR.emp {hd tl : Nat} {g : Nat → Option Nat} {xs : List Nat} (h : DQR hd tl g xs) : decide (hd = tl) = xs.isEmpty := by
  obtain ⟨h1, h2, h3, -⟩ := h
  cases xs with
  | nil => simp only [List.isEmpty_nil, decide_eq_true_eq]; simp at h3; omega
  | cons a t => simp only [List.isEmpty_cons, decide_eq_false_iff_not]; simp only [List.length_cons] at h2 h3; omega
theorem DQR.at0 {hd tl x : Nat} {g : Nat → Option Nat} {xs : List Nat} (h : DQR hd tl g (x :: xs)) : g hd = some x := by
  have h4 := h.2.2.2 0 (by decide)
  rw [Nat.add_zero, Nat.mod_eq_of_lt h.1] at h4
  exact h4
theorem DQR.atl {hd tl x : Nat} {g : Nat → Option Nat} {xs : List Nat} (h : DQR hd tl g (xs ++ [x])) : dcN tl 17 = (hd + xs.length) % 17 ∧ g (dcN tl 17) = some x := by
  obtain ⟨h1, h2, h3, h4⟩ := h
  rw [show (xs ++ [x]).length = xs.length + 1 by simp] at h2 h3
  have e : dcN tl 17 = (hd + xs.length) % 17 := by
    cases tl with
    | zero => show 17 - 1 = _; omega
    | succ t => show t = _; omega
  refine ⟨e, ?_⟩
  rw [e, h4 _ (by omega)]; simp
theorem DQR.push {hd tl x : Nat} {g : Nat → Option Nat} {xs : List Nat} (h : DQR hd tl g xs) (hl : xs.length < 16) : DQR hd ((tl + 1) % 17) (va_up g tl (some x)) (xs ++ [x]) := by
  obtain ⟨h1, h2, h3, h4⟩ := h
  refine ⟨h1, by simp; omega, by simp; omega, fun i hi => ?_⟩
  unfold va_up
  by_cases e : i = xs.length
  · subst e; rw [if_pos (by omega)]; simp
  · rw [if_neg (by omega), h4 i hi]
    by_cases g1 : i < xs.length
    · rw [List.getElem?_append_left g1]
    · rw [List.getElem?_eq_none (by omega), List.getElem?_eq_none (by simp; omega)]
theorem DQR.pop0 {hd tl x : Nat} {g : Nat → Option Nat} {xs : List Nat} (h : DQR hd tl g (x :: xs)) : DQR ((hd + 1) % 17) tl (va_up g hd none) xs := by
  obtain ⟨h1, h2, h3, h4⟩ := h
  simp only [List.length_cons] at h2 h3
  refine ⟨Nat.mod_lt _ (by decide), by omega, by omega, fun i hi => ?_⟩
  unfold va_up
  by_cases e : i = 16
  · subst e; rw [if_pos (by omega), List.getElem?_eq_none (by omega)]
  · rw [if_neg (by omega), show ((hd + 1) % 17 + i) % 17 = (hd + (i + 1)) % 17 by omega, h4 (i + 1) (by omega)]; simp
theorem DQR.popl {hd tl x : Nat} {g : Nat → Option Nat} {xs : List Nat} (h : DQR hd tl g (xs ++ [x])) : DQR hd (dcN tl 17) (va_up g (dcN tl 17) none) xs := by
  have e := h.atl.1
  obtain ⟨h1, h2, h3, h4⟩ := h
  rw [show (xs ++ [x]).length = xs.length + 1 by simp] at h2 h3
  refine ⟨h1, by omega, e, fun i hi => ?_⟩
  unfold va_up
  by_cases e2 : i = xs.length
  · subst e2; rw [if_pos e.symm, List.getElem?_eq_none (by omega)]
  · rw [if_neg (by omega), h4 i hi]
    by_cases g1 : i < xs.length
    · rw [List.getElem?_append_left g1]
    · rw [List.getElem?_eq_none (show xs.length ≤ i by omega), List.getElem?_eq_none (by simp; omega)]
set_option maxHeartbeats 4000000 in
set_option maxRecDepth 100000 in
theorem m_J0_init (l : Launch) (G : GG) (dh : Nat)  : MM l G yJ0_init cJ0_init 1 none ⟨1, 0, 0, 12⟩ [.ref dh] ([] : va_W) (Qv_ G (fun (_ : Unit) => True) (fun (_ : Unit) => ([] : va_W))) := by
  refine MM.of (by decide) (Nat.le_of_ble_eq_true rfl) ?_
  intro p e s m args below meth cd A C hini hA hK hZ hP hD ls hl
  generalize hQ : MQ below ((Qv_ G (fun (_ : Unit) => True) (fun (_ : Unit) => ([] : va_W))) A) args s (⟨1, 0, 0, 12⟩ : Room).cells (⟨1, 0, 0, 12⟩ : Room).slots A = Q
  obtain ⟨hx, hb, hr, hts, hown, hlk, hml⟩ := C
  have hown : s.vm.findClass RJ0 = some m.cls := hown
  have hS : va_S A s.heap s.heap [] := va_S.rf
  have hl : lv_has ls 1 [(0, .ref dh)] := hl
  refine lv_aload_n hx hb dJ0_init_0 rfl (lv_at hl 0 rfl) ?_
  refine W.objInit hx hb hown (hts _ q212) (hts _ q129) (hts _ q130) rfl (by rw [hml]; exact hl.1) rfl dJ0_init_1 (Nat.le_of_ble_eq_true rfl) (Nat.le_of_ble_eq_true rfl) ?_
  refine W.eq (g2 := F0 m 4 ls []) rfl ?_
  subst hQ
  exact ret_v hx hb hr hlk () trivial hP hD hS dJ0_init_4
set_option maxHeartbeats 4000000 in
set_option maxRecDepth 100000 in
theorem m_J1_inc (l : Launch) (G : GG) (i : Nat) (z : Nat) (hi : i < z) (hz : z < 1000) : MM l G yJ1_inc cJ1_inc 2 (some .int) ⟨0, 0, 0, 0⟩ [.int (nI i), .int (nI z)] ([] : va_W) (Qi_ G (fun (r : Int32) (_ : Unit) => r = nI ((i + 1) % z)) (fun (_ : Unit) => ([] : va_W))) := by
  refine MM.of (by decide) (Nat.le_of_ble_eq_true rfl) ?_
  intro p e s m args below meth cd A C hini hA hK hZ hP hD ls hl
  generalize hQ : MQ below ((Qi_ G (fun (r : Int32) (_ : Unit) => r = nI ((i + 1) % z)) (fun (_ : Unit) => ([] : va_W))) A) args s (⟨0, 0, 0, 0⟩ : Room).cells (⟨0, 0, 0, 0⟩ : Room).slots A = Q
  obtain ⟨hx, hb, hr, hts, hown, hlk, hml⟩ := C
  have hown : s.vm.findClass RJ1 = some m.cls := hown
  have hS : va_S A s.heap s.heap [] := va_S.rf
  have hl : lv_has ls 2 [(0, .int (nI i)), (1, .int (nI z))] := hl
  refine lv_iinc (v := nI (i + 1)) (lv' := [(0, .int (nI (i + 1))), (1, .int (nI z))]) hx hb dJ1_inc_0 hl (k := 0) rfl (nI_add _ _) (by decide) rfl (fun ls hl => ?_)
  refine lv_iload_n hx hb dJ1_inc_3 rfl (lv_at hl 0 rfl) ?_
  refine lv_iload_n hx hb dJ1_inc_4 rfl (lv_at hl 1 rfl) ?_
  refine n_cmp_lt (tgt := 10) hx hb dJ1_inc_5 (by decide) (by omega) (by omega) (fun c5 => ?_) (fun c5 => ?_)
  · skip
    refine lv_iload_n hx hb dJ1_inc_10 rfl (lv_at hl 0 rfl) ?_
    subst hQ
    exact ret_i hx hb hr hlk () (congrArg nI (Nat.mod_eq_of_lt (by omega)).symm) hP hD hS rfl dJ1_inc_11
  · skip
    refine lv_iconst (v := nI 0) hx hb dJ1_inc_8 (by decide) ?_
    refine lv_istore_n (lv' := [(0, .int (nI 0)), (1, .int (nI z))]) hx hb dJ1_inc_9 rfl hl (by decide) rfl (fun ls hl => ?_)
    refine lv_iload_n hx hb dJ1_inc_10 rfl (lv_at hl 0 rfl) ?_
    subst hQ
    exact ret_i hx hb hr hlk () (congrArg nI (by rw [show i + 1 = z by omega, Nat.mod_self])) hP hD hS rfl dJ1_inc_11
set_option maxHeartbeats 4000000 in
set_option maxRecDepth 100000 in
theorem m_J1_dec__0 (l : Launch) (G : GG) (z : Nat) (hz : 0 < z) (hz2 : z < 1000) : MM l G yJ1_dec cJ1_dec 2 (some .int) ⟨0, 0, 0, 0⟩ [.int (nI 0), .int (nI z)] ([] : va_W) (Qi_ G (fun (r : Int32) (_ : Unit) => r = nI (z - 1)) (fun (_ : Unit) => ([] : va_W))) := by
  refine MM.of (by decide) (Nat.le_of_ble_eq_true rfl) ?_
  intro p e s m args below meth cd A C hini hA hK hZ hP hD ls hl
  generalize hQ : MQ below ((Qi_ G (fun (r : Int32) (_ : Unit) => r = nI (z - 1)) (fun (_ : Unit) => ([] : va_W))) A) args s (⟨0, 0, 0, 0⟩ : Room).cells (⟨0, 0, 0, 0⟩ : Room).slots A = Q
  obtain ⟨hx, hb, hr, hts, hown, hlk, hml⟩ := C
  have hown : s.vm.findClass RJ1 = some m.cls := hown
  have hS : va_S A s.heap s.heap [] := va_S.rf
  have hl : lv_has ls 2 [(0, .int (nI 0)), (1, .int (nI z))] := hl
  refine lv_iinc (v := (-1)) (lv' := [(0, .int (-1)), (1, .int (nI z))]) hx hb dJ1_dec_0 hl (k := 0) rfl (by decide) (by decide) rfl (fun ls hl => ?_)
  refine lv_iload_n hx hb dJ1_dec_3 rfl (lv_at hl 0 rfl) ?_
  refine lv_if_ge (tgt := 11) hx hb dJ1_dec_4 (by decide) (fun c4 => ?_) (fun c4 => ?_)
  · exact absurd c4 (by decide)
  refine lv_iload_n hx hb dJ1_dec_7 rfl (lv_at hl 1 rfl) ?_
  refine lv_iconst (v := nI 1) hx hb dJ1_dec_8 (by decide) ?_
  refine n_isub hx hb (by omega) dJ1_dec_9 ?_
  refine lv_istore_n (lv' := [(0, .int (nI (z - 1))), (1, .int (nI z))]) hx hb dJ1_dec_10 rfl hl (by decide) rfl (fun ls hl => ?_)
  refine lv_iload_n hx hb dJ1_dec_11 rfl (lv_at hl 0 rfl) ?_
  subst hQ
  exact ret_i hx hb hr hlk () rfl hP hD hS rfl dJ1_dec_12
set_option maxHeartbeats 4000000 in
set_option maxRecDepth 100000 in
theorem m_J1_dec__p (l : Launch) (G : GG) (i : Nat) (z : Nat) (hz : 0 < z) (hz2 : i < 1000) : MM l G yJ1_dec cJ1_dec 2 (some .int) ⟨0, 0, 0, 0⟩ [.int (nI (i + 1)), .int (nI z)] ([] : va_W) (Qi_ G (fun (r : Int32) (_ : Unit) => r = nI i) (fun (_ : Unit) => ([] : va_W))) := by
  refine MM.of (by decide) (Nat.le_of_ble_eq_true rfl) ?_
  intro p e s m args below meth cd A C hini hA hK hZ hP hD ls hl
  generalize hQ : MQ below ((Qi_ G (fun (r : Int32) (_ : Unit) => r = nI i) (fun (_ : Unit) => ([] : va_W))) A) args s (⟨0, 0, 0, 0⟩ : Room).cells (⟨0, 0, 0, 0⟩ : Room).slots A = Q
  obtain ⟨hx, hb, hr, hts, hown, hlk, hml⟩ := C
  have hown : s.vm.findClass RJ1 = some m.cls := hown
  have hS : va_S A s.heap s.heap [] := va_S.rf
  have hl : lv_has ls 2 [(0, .int (nI (i + 1))), (1, .int (nI z))] := hl
  refine lv_iinc (v := nI ((i + 1) - 1)) (lv' := [(0, .int (nI ((i + 1) - 1))), (1, .int (nI z))]) hx hb dJ1_dec_0 hl (k := 0) rfl (by rw [show Int32.ofInt (-1) = -nI 1 from by decide, ← Int32.sub_eq_add_neg]; exact pk_sub (by omega)) (by decide) rfl (fun ls hl => ?_)
  refine lv_iload_n hx hb dJ1_dec_3 rfl (lv_at hl 0 rfl) ?_
  refine n_if_ge (tgt := 11) hx hb dJ1_dec_4 (by decide) (by omega) ?_
  refine lv_iload_n hx hb dJ1_dec_11 rfl (lv_at hl 0 rfl) ?_
  subst hQ
  exact ret_i hx hb hr hlk () (congrArg nI (by omega)) hP hD hS rfl dJ1_dec_12
set_option maxHeartbeats 4000000 in
set_option maxRecDepth 100000 in
theorem m_J1_dec (l : Launch) (G : GG) (i : Nat) (z : Nat) (hz : 0 < z) (hz2 : z < 1000) (hi : i < 1000) : MM l G yJ1_dec cJ1_dec 2 (some .int) ⟨0, 0, 0, 0⟩ [.int (nI i), .int (nI z)] ([] : va_W) (Qi_ G (fun (r : Int32) (_ : Unit) => r = nI (dcN i z)) (fun (_ : Unit) => ([] : va_W))) := by
  rcases i with _ | i
  · exact m_J1_dec__0 l G z hz hz2
  · exact m_J1_dec__p l G i z hz (by omega)
set_option maxHeartbeats 4000000 in
set_option maxRecDepth 100000 in
theorem m_J1_sub__g (l : Launch) (G : GG) (i : Nat) (j : Nat) (z : Nat) (hz : j ≤ i) (hz2 : i < 1000) : MM l G yJ1_sub cJ1_sub 3 (some .int) ⟨0, 0, 0, 0⟩ [.int (nI i), .int (nI j), .int (nI z)] ([] : va_W) (Qi_ G (fun (r : Int32) (_ : Unit) => r = nI (i - j)) (fun (_ : Unit) => ([] : va_W))) := by
  refine MM.of (by decide) (Nat.le_of_ble_eq_true rfl) ?_
  intro p e s m args below meth cd A C hini hA hK hZ hP hD ls hl
  generalize hQ : MQ below ((Qi_ G (fun (r : Int32) (_ : Unit) => r = nI (i - j)) (fun (_ : Unit) => ([] : va_W))) A) args s (⟨0, 0, 0, 0⟩ : Room).cells (⟨0, 0, 0, 0⟩ : Room).slots A = Q
  obtain ⟨hx, hb, hr, hts, hown, hlk, hml⟩ := C
  have hown : s.vm.findClass RJ1 = some m.cls := hown
  have hS : va_S A s.heap s.heap [] := va_S.rf
  have hl : lv_has ls 3 [(0, .int (nI i)), (1, .int (nI j)), (2, .int (nI z))] := hl
  refine lv_iload_n hx hb dJ1_sub_0 rfl (lv_at hl 0 rfl) ?_
  refine lv_iload_n hx hb dJ1_sub_1 rfl (lv_at hl 1 rfl) ?_
  refine n_isub hx hb (by omega) dJ1_sub_2 ?_
  refine lv_dup hx hb dJ1_sub_3 rfl ?_
  refine lv_istore_n (lv' := [(0, .int (nI (i - j))), (1, .int (nI j)), (2, .int (nI z))]) hx hb dJ1_sub_4 rfl hl (by decide) rfl (fun ls hl => ?_)
  refine n_if_ge (tgt := 12) hx hb dJ1_sub_5 (by decide) (by omega) ?_
  refine lv_iload_n hx hb dJ1_sub_12 rfl (lv_at hl 0 rfl) ?_
  subst hQ
  exact ret_i hx hb hr hlk () rfl hP hD hS rfl dJ1_sub_13
set_option maxHeartbeats 4000000 in
set_option maxRecDepth 100000 in
theorem m_J1_sub__l (l : Launch) (G : GG) (i : Nat) (j : Nat) (z : Nat) (hz : i < j) (hz2 : j < 1000) (hz3 : j ≤ z) : MM l G yJ1_sub cJ1_sub 3 (some .int) ⟨0, 0, 0, 0⟩ [.int (nI i), .int (nI j), .int (nI z)] ([] : va_W) (Qi_ G (fun (r : Int32) (_ : Unit) => r = nI (i + z - j)) (fun (_ : Unit) => ([] : va_W))) := by
  refine MM.of (by decide) (Nat.le_of_ble_eq_true rfl) ?_
  intro p e s m args below meth cd A C hini hA hK hZ hP hD ls hl
  generalize hQ : MQ below ((Qi_ G (fun (r : Int32) (_ : Unit) => r = nI (i + z - j)) (fun (_ : Unit) => ([] : va_W))) A) args s (⟨0, 0, 0, 0⟩ : Room).cells (⟨0, 0, 0, 0⟩ : Room).slots A = Q
  obtain ⟨hx, hb, hr, hts, hown, hlk, hml⟩ := C
  have hown : s.vm.findClass RJ1 = some m.cls := hown
  have hS : va_S A s.heap s.heap [] := va_S.rf
  have hl : lv_has ls 3 [(0, .int (nI i)), (1, .int (nI j)), (2, .int (nI z))] := hl
  refine lv_iload_n hx hb dJ1_sub_0 rfl (lv_at hl 0 rfl) ?_
  refine lv_iload_n hx hb dJ1_sub_1 rfl (lv_at hl 1 rfl) ?_
  refine lv_isub hx hb dJ1_sub_2 ?_
  refine lv_dup hx hb dJ1_sub_3 rfl ?_
  refine lv_istore_n (lv' := [(0, .int ((nI i) - (nI j))), (1, .int (nI j)), (2, .int (nI z))]) hx hb dJ1_sub_4 rfl hl (by decide) rfl (fun ls hl => ?_)
  refine lv_if_ge (tgt := 12) hx hb dJ1_sub_5 (by decide) (fun c5 => ?_) (fun c5 => ?_)
  · exact absurd c5 (by have t := pk_sub_toInt (show i < 2 ^ 30 by omega) (show j < 2 ^ 30 by omega); rw [Int32.le_iff_toInt_le, t]; show ¬ (0 : Int) ≤ _; omega)
  refine lv_iload_n hx hb dJ1_sub_8 rfl (lv_at hl 0 rfl) ?_
  refine lv_iload_n hx hb dJ1_sub_9 rfl (lv_at hl 2 rfl) ?_
  refine lv_iadd hx hb dJ1_sub_10 ?_
  refine lv_istore_n (lv' := [(0, .int (((nI i) - (nI j)) + (nI z))), (1, .int (nI j)), (2, .int (nI z))]) hx hb dJ1_sub_11 rfl hl (by decide) rfl (fun ls hl => ?_)
  refine lv_iload_n hx hb dJ1_sub_12 rfl (lv_at hl 0 rfl) ?_
  subst hQ
  exact ret_i hx hb hr hlk () (by rw [← pk_sub (show j ≤ i + z by omega), ← nI_add, Int32.sub_eq_add_neg, Int32.sub_eq_add_neg, Int32.add_assoc, Int32.add_comm (-nI j), ← Int32.add_assoc]) hP hD hS rfl dJ1_sub_13
set_option maxHeartbeats 4000000 in
set_option maxRecDepth 100000 in
theorem m_J1_sub (l : Launch) (G : GG) (i : Nat) (j : Nat) (z : Nat) (h1 : i < 1000) (h2 : j ≤ z) (h3 : j < 1000) : MM l G yJ1_sub cJ1_sub 3 (some .int) ⟨0, 0, 0, 0⟩ [.int (nI i), .int (nI j), .int (nI z)] ([] : va_W) (Qi_ G (fun (r : Int32) (_ : Unit) => r = nI (sbN i j z)) (fun (_ : Unit) => ([] : va_W))) := by
  unfold sbN
  by_cases h : j ≤ i
  · rw [if_pos h]; exact m_J1_sub__g l G i j z h h1
  · rw [if_neg h]; exact m_J1_sub__l l G i j z (by omega) h3 h2
set_option maxHeartbeats 4000000 in
set_option maxRecDepth 100000 in
theorem m_J1_elementAt (l : Launch) (G : GG) (dv : Nat) (dg : Nat → Option Nat) (i : Nat) (hi : i < 17) : MM l G yJ1_elementAt cJ1_elementAt 2 (some (.object "java/lang/Object")) ⟨0, 0, 0, 0⟩ [.ref dv, .int (nI i)] (QAW G dv dg) (Qq_ G (fun (r : Option Nat) (_ : Unit) => r = (dg i)) (fun (_ : Unit) => (QAW G dv dg))) := by
  refine MM.of (by decide) (Nat.le_of_ble_eq_true rfl) ?_
  intro p e s m args below meth cd A C hini hA hK hZ hP hD ls hl
  generalize hQ : MQ below ((Qq_ G (fun (r : Option Nat) (_ : Unit) => r = (dg i)) (fun (_ : Unit) => (QAW G dv dg))) A) args s (⟨0, 0, 0, 0⟩ : Room).cells (⟨0, 0, 0, 0⟩ : Room).slots A = Q
  obtain ⟨hx, hb, hr, hts, hown, hlk, hml⟩ := C
  have hown : s.vm.findClass RJ1 = some m.cls := hown
  have hS : va_S A s.heap s.heap [] := va_S.rf
  have hl : lv_has ls 2 [(0, .ref dv), (1, .int (nI i))] := hl
  refine lv_aload_n hx hb dJ1_elementAt_0 rfl (lv_at hl 0 rfl) ?_
  refine lv_iload_n hx hb dJ1_elementAt_1 rfl (lv_at hl 1 rfl) ?_
  refine q_aald hx hb hK hP 0 rfl (by omega) (by decide) dJ1_elementAt_2 ?_
  subst hQ
  exact ret_q hx hb hr (Or.inl ⟨_, rfl⟩) hlk () rfl hP hD hS dJ1_elementAt_3
set_option maxHeartbeats 4000000 in
set_option maxRecDepth 100000 in
theorem m_J1_nonNullElementAt (l : Launch) (G : GG) (dv : Nat) (dg : Nat → Option Nat) (i : Nat) (x : Nat) (hi : i < 17) (hx1 : dg i = some x) : MM l G yJ1_nonNullElementAt cJ1_nonNullElementAt 3 (some (.object "java/lang/Object")) ⟨0, 0, 0, 0⟩ [.ref dv, .int (nI i)] (QAW G dv dg) (Qr_ G (fun (r : Nat) (_ : Unit) => r = x) (fun (r : Nat) (_ : Unit) => (QAW G dv dg))) := by
  refine MM.of (by decide) (Nat.le_of_ble_eq_true rfl) ?_
  intro p e s m args below meth cd A C hini hA hK hZ hP hD ls hl
  generalize hQ : MQ below ((Qr_ G (fun (r : Nat) (_ : Unit) => r = x) (fun (r : Nat) (_ : Unit) => (QAW G dv dg))) A) args s (⟨0, 0, 0, 0⟩ : Room).cells (⟨0, 0, 0, 0⟩ : Room).slots A = Q
  obtain ⟨hx, hb, hr, hts, hown, hlk, hml⟩ := C
  have hown : s.vm.findClass RJ1 = some m.cls := hown
  have hS : va_S A s.heap s.heap [] := va_S.rf
  have hl : lv_has ls 3 [(0, .ref dv), (1, .int (nI i))] := hl
  refine lv_aload_n hx hb dJ1_nonNullElementAt_0 rfl (lv_at hl 0 rfl) ?_
  refine lv_iload_n hx hb dJ1_nonNullElementAt_1 rfl (lv_at hl 1 rfl) ?_
  refine q_aald hx hb hK hP 0 rfl (by omega) (by decide) dJ1_nonNullElementAt_2 ?_
  refine eq_v (y := .ref x) (by rw [hx1]; rfl) ?_
  refine lv_astore_n (lv' := [(2, .ref x), (0, .ref dv), (1, .int (nI i))]) hx hb dJ1_nonNullElementAt_3 rfl hl (by decide) rfl (fun ls hl => ?_)
  refine lv_aload_n hx hb dJ1_nonNullElementAt_4 rfl (lv_at hl 0 rfl) ?_
  refine lv_ifnonnull (tgt := 16) hx hb dJ1_nonNullElementAt_5 (by decide) ?_
  refine lv_aload_n hx hb dJ1_nonNullElementAt_16 rfl (lv_at hl 0 rfl) ?_
  subst hQ
  exact ret_r hx hb hr (Or.inl ⟨_, rfl⟩) hlk () rfl hP hD hS dJ1_nonNullElementAt_17
set_option maxHeartbeats 4000000 in
set_option maxRecDepth 100000 in
theorem m_J1_isEmpty__o (l : Launch) (G : GG) (dh : Nat) (dv : Nat) (hd9 : Nat) (tl9 : Nat) (dg : Nat → Option Nat) (h1 : hd9 < 17) (h2 : tl9 < 17) : MM l G yJ1_isEmpty cJ1_isEmpty 1 (some .boolean) ⟨0, 0, 0, 0⟩ [.ref dh] (DOW G dh dv hd9 tl9 ++ QAW G dv dg) (Qi_ G (fun (r : Int32) (_ : Unit) => r = bI (decide (hd9 = tl9))) (fun (_ : Unit) => (DOW G dh dv hd9 tl9 ++ QAW G dv dg))) := by
  refine MM.of (by decide) (Nat.le_of_ble_eq_true rfl) ?_
  intro p e s m args below meth cd A C hini hA hK hZ hP hD ls hl
  generalize hQ : MQ below ((Qi_ G (fun (r : Int32) (_ : Unit) => r = bI (decide (hd9 = tl9))) (fun (_ : Unit) => (DOW G dh dv hd9 tl9 ++ QAW G dv dg))) A) args s (⟨0, 0, 0, 0⟩ : Room).cells (⟨0, 0, 0, 0⟩ : Room).slots A = Q
  obtain ⟨hx, hb, hr, hts, hown, hlk, hml⟩ := C
  have hown : s.vm.findClass RJ1 = some m.cls := hown
  have hS : va_S A s.heap s.heap [] := va_S.rf
  have hl : lv_has ls 1 [(0, .ref dh)] := hl
  refine lv_aload_n hx hb dJ1_isEmpty_0 rfl (lv_at hl 0 rfl) ?_
  refine va_get (D := G.1) (ci := 8) (v := .int (nI hd9)) (C := RJ1) (T := TJ1) (N := 3) hx hb hts in_J1 hown hK hP 0 rfl rfl 1 (by decide) (hts _ q218) (fun _ h9 => h9) rfl dJ1_isEmpty_1 ?_
  refine lv_aload_n hx hb dJ1_isEmpty_4 rfl (lv_at hl 0 rfl) ?_
  refine va_get (D := G.1) (ci := 8) (v := .int (nI tl9)) (C := RJ1) (T := TJ1) (N := 3) hx hb hts in_J1 hown hK hP 0 rfl rfl 2 (by decide) (hts _ q219) (fun _ h9 => h9) rfl dJ1_isEmpty_5 ?_
  refine n_cmp_ne (tgt := 15) hx hb dJ1_isEmpty_8 (by decide) (by omega) (by omega) (fun c8 => ?_) (fun c8 => ?_)
  · skip
    refine lv_iconst (v := nI 0) hx hb dJ1_isEmpty_15 (by decide) ?_
    subst hQ
    exact ret_i hx hb hr hlk () (bI_d0 (by omega)) hP hD hS rfl dJ1_isEmpty_16
  · skip
    refine lv_iconst (v := nI 1) hx hb dJ1_isEmpty_11 (by decide) ?_
    refine lv_goto (tgt := 16) hx hb dJ1_isEmpty_12 (by decide) ?_
    subst hQ
    exact ret_i hx hb hr hlk () (bI_d1 (by omega)) hP hD hS rfl dJ1_isEmpty_16
set_option maxHeartbeats 4000000 in
set_option maxRecDepth 100000 in
theorem m_J1_size__o (l : Launch) (G : GG) (dh : Nat) (dv : Nat) (hd9 : Nat) (tl9 : Nat) (dg : Nat → Option Nat) (h1 : hd9 < 17) (h2 : tl9 < 17) : MM l G yJ1_size cJ1_size 1 (some .int) ⟨1, 0, 0, 22⟩ [.ref dh] (DOW G dh dv hd9 tl9 ++ QAW G dv dg) (Qi_ G (fun (r : Int32) (_ : Unit) => r = nI (sbN tl9 hd9 17)) (fun (_ : Unit) => (DOW G dh dv hd9 tl9 ++ QAW G dv dg))) := by
  refine MM.of (by decide) (Nat.le_of_ble_eq_true rfl) ?_
  intro p e s m args below meth cd A C hini hA hK hZ hP hD ls hl
  generalize hQ : MQ below ((Qi_ G (fun (r : Int32) (_ : Unit) => r = nI (sbN tl9 hd9 17)) (fun (_ : Unit) => (DOW G dh dv hd9 tl9 ++ QAW G dv dg))) A) args s (⟨1, 0, 0, 22⟩ : Room).cells (⟨1, 0, 0, 22⟩ : Room).slots A = Q
  obtain ⟨hx, hb, hr, hts, hown, hlk, hml⟩ := C
  have hown : s.vm.findClass RJ1 = some m.cls := hown
  have hS : va_S A s.heap s.heap [] := va_S.rf
  have hl : lv_has ls 1 [(0, .ref dh)] := hl
  refine lv_aload_n hx hb dJ1_size_0 rfl (lv_at hl 0 rfl) ?_
  refine va_get (D := G.1) (ci := 8) (v := .int (nI tl9)) (C := RJ1) (T := TJ1) (N := 3) hx hb hts in_J1 hown hK hP 0 rfl rfl 2 (by decide) (hts _ q219) (fun _ h9 => h9) rfl dJ1_size_1 ?_
  refine lv_aload_n hx hb dJ1_size_4 rfl (lv_at hl 0 rfl) ?_
  refine va_get (D := G.1) (ci := 8) (v := .int (nI hd9)) (C := RJ1) (T := TJ1) (N := 3) hx hb hts in_J1 hown hK hP 0 rfl rfl 1 (by decide) (hts _ q218) (fun _ h9 => h9) rfl dJ1_size_5 ?_
  refine lv_aload_n hx hb dJ1_size_8 rfl (lv_at hl 0 rfl) ?_
  refine va_get (D := G.1) (ci := 8) (v := .ref dv) (C := RJ1) (T := TJ1) (N := 3) hx hb hts in_J1 hown hK hP 0 rfl rfl 0 (by decide) (hts _ q215) (fun _ h9 => h9) rfl dJ1_size_9 ?_
  refine va_alen (v := nI 17) hx hb hK hP 1 6 rfl rfl rfl dJ1_size_12 ?_
  refine callSi (As := [.int (nI tl9), .int (nI hd9), .int (nI 17)]) (rest := []) (wc := ([] : va_W)) (wr := (DOW G dh dv hd9 tl9 ++ QAW G dv dg)) ⟨hx, hb, hml, hown, hts⟩ (m_J1_sub l G tl9 hd9 17 (by first | assumption | omega) (by first | assumption | omega) (by first | assumption | omega)) (va_cwS 3 hts (lw_S q613 q614 q92 q615) rfl rfl rfl (by decide +kernel) ⟨Nat.le_of_ble_eq_true rfl, Nat.le_of_ble_eq_true rfl⟩) hK hZ hA hP hD hS [] [0, 1] rfl rfl (by decide) (by decide) (by decide) rfl hl.1 (Nat.le_of_ble_eq_true rfl) ⟨Nat.le_of_ble_eq_true rfl, Nat.le_of_ble_eq_true rfl⟩ rfl dJ1_size_13 (fun r9 u9 H locs hw9 hP hD hS => ?_)
  subst hw9
  have hP : va_P G.1 CL (DOW G dh dv hd9 tl9 ++ QAW G dv dg) _ := hP
  have hD : va_D A (DOW G dh dv hd9 tl9 ++ QAW G dv dg) := hD
  subst hQ
  exact ret_i hx hb hr hlk () rfl hP hD hS rfl dJ1_size_16
set_option maxHeartbeats 4000000 in
set_option maxRecDepth 100000 in
theorem m_J1_pollFirst__o (l : Launch) (G : GG) (dh : Nat) (dv : Nat) (hd9 : Nat) (tl9 : Nat) (dg : Nat → Option Nat) (x : Nat) (h1 : hd9 < 17) (hx1 : dg hd9 = some x) : MM l G yJ1_pollFirst cJ1_pollFirst 4 (some (.object "java/lang/Object")) ⟨1, 0, 0, 21⟩ [.ref dh] (DOW G dh dv hd9 tl9 ++ QAW G dv dg) (Qr_ G (fun (r : Nat) (_ : Unit) => r = x) (fun (r : Nat) (_ : Unit) => (DOW G dh dv ((hd9 + 1) % 17) tl9 ++ QAW G dv (va_up dg hd9 none)))) := by
  refine MM.of (by decide) (Nat.le_of_ble_eq_true rfl) ?_
  intro p e s m args below meth cd A C hini hA hK hZ hP hD ls hl
  generalize hQ : MQ below ((Qr_ G (fun (r : Nat) (_ : Unit) => r = x) (fun (r : Nat) (_ : Unit) => (DOW G dh dv ((hd9 + 1) % 17) tl9 ++ QAW G dv (va_up dg hd9 none)))) A) args s (⟨1, 0, 0, 21⟩ : Room).cells (⟨1, 0, 0, 21⟩ : Room).slots A = Q
  obtain ⟨hx, hb, hr, hts, hown, hlk, hml⟩ := C
  have hown : s.vm.findClass RJ1 = some m.cls := hown
  have hS : va_S A s.heap s.heap [] := va_S.rf
  have hl : lv_has ls 4 [(0, .ref dh)] := hl
  refine lv_aload_n hx hb dJ1_pollFirst_0 rfl (lv_at hl 0 rfl) ?_
  refine va_get (D := G.1) (ci := 8) (v := .ref dv) (C := RJ1) (T := TJ1) (N := 3) hx hb hts in_J1 hown hK hP 0 rfl rfl 0 (by decide) (hts _ q215) (fun _ h9 => h9) rfl dJ1_pollFirst_1 ?_
  refine lv_dup hx hb dJ1_pollFirst_4 rfl ?_
  refine lv_astore_n (lv' := [(1, .ref dv), (0, .ref dh)]) hx hb dJ1_pollFirst_5 rfl hl (by decide) rfl (fun ls hl => ?_)
  refine lv_aload_n hx hb dJ1_pollFirst_6 rfl (lv_at hl 1 rfl) ?_
  refine va_get (D := G.1) (ci := 8) (v := .int (nI hd9)) (C := RJ1) (T := TJ1) (N := 3) hx hb hts in_J1 hown hK hP 0 rfl rfl 1 (by decide) (hts _ q218) (fun _ h9 => h9) rfl dJ1_pollFirst_7 ?_
  refine lv_dup hx hb dJ1_pollFirst_10 rfl ?_
  refine lv_istore_n (lv' := [(2, .int (nI hd9)), (1, .ref dv), (0, .ref dh)]) hx hb dJ1_pollFirst_11 rfl hl (by decide) rfl (fun ls hl => ?_)
  refine callSq (As := [.ref dv, .int (nI hd9)]) (rest := []) (wc := (QAW G dv dg)) (wr := (DOW G dh dv hd9 tl9)) ⟨hx, hb, hml, hown, hts⟩ (m_J1_elementAt l G dv dg hd9 (by first | assumption | omega)) (va_cwS 2 hts (lw_S q1152 q1153 q92 q1154) rfl rfl rfl (by decide +kernel) ⟨Nat.le_of_ble_eq_true rfl, Nat.le_of_ble_eq_true rfl⟩) hK hZ hA hP hD hS [1] [0] rfl rfl (by decide) (by decide) (by decide) rfl hl.1 (Nat.le_of_ble_eq_true rfl) ⟨Nat.le_of_ble_eq_true rfl, Nat.le_of_ble_eq_true rfl⟩ rfl dJ1_pollFirst_12 (fun r9 u9 H locs hw9 hP hD hS => ?_)
  subst hw9
  have hP : va_P G.1 CL (DOW G dh dv hd9 tl9 ++ QAW G dv dg) _ := hP
  have hD : va_D A (DOW G dh dv hd9 tl9 ++ QAW G dv dg) := hD
  refine eq_v (y := .ref x) (by rw [hx1]; rfl) ?_
  refine lv_astore_n (lv' := [(3, .ref x), (2, .int (nI hd9)), (1, .ref dv), (0, .ref dh)]) hx hb dJ1_pollFirst_15 rfl hl (by decide) rfl (fun ls hl => ?_)
  refine lv_aload_n hx hb dJ1_pollFirst_16 rfl (lv_at hl 0 rfl) ?_
  refine lv_ifnull hx hb dJ1_pollFirst_17 ?_
  refine lv_aload_n hx hb dJ1_pollFirst_20 rfl (lv_at hl 2 rfl) ?_
  refine lv_iload_n hx hb dJ1_pollFirst_21 rfl (lv_at hl 1 rfl) ?_
  refine lv_null hx hb dJ1_pollFirst_22 ?_
  refine q_aastN hx hb hK hP hD hS 1 rfl (by omega) (by decide) dJ1_pollFirst_23 (fun H locs hP hD hS => ?_)
  have hP : va_P G.1 CL (DOW G dh dv hd9 tl9 ++ QAW G dv (va_up dg hd9 none)) _ := hP
  have hD : va_D A (DOW G dh dv hd9 tl9 ++ QAW G dv (va_up dg hd9 none)) := hD
  refine lv_aload_n hx hb dJ1_pollFirst_24 rfl (lv_at hl 3 rfl) ?_
  refine lv_iload_n hx hb dJ1_pollFirst_25 rfl (lv_at hl 1 rfl) ?_
  refine lv_aload_n hx hb dJ1_pollFirst_26 rfl (lv_at hl 2 rfl) ?_
  refine va_alen (v := nI 17) hx hb hK hP 1 6 rfl rfl rfl dJ1_pollFirst_27 ?_
  refine callSi (As := [.int (nI hd9), .int (nI 17)]) (rest := [.ref dh]) (wc := ([] : va_W)) (wr := (DOW G dh dv hd9 tl9 ++ QAW G dv (va_up dg hd9 none))) ⟨hx, hb, hml, hown, hts⟩ (m_J1_inc l G hd9 17 (by first | assumption | omega) (by first | assumption | omega)) (va_cwS 2 hts (lw_S q301 q302 q92 q303) rfl rfl rfl (by decide +kernel) ⟨Nat.le_of_ble_eq_true rfl, Nat.le_of_ble_eq_true rfl⟩) hK hZ hA hP hD hS [] [0, 1] rfl rfl (by decide) (by decide) (by decide) rfl hl.1 (Nat.le_of_ble_eq_true rfl) ⟨Nat.le_of_ble_eq_true rfl, Nat.le_of_ble_eq_true rfl⟩ rfl dJ1_pollFirst_28 (fun r9 u9 H locs hw9 hP hD hS => ?_)
  subst hw9
  have hP : va_P G.1 CL (DOW G dh dv hd9 tl9 ++ QAW G dv (va_up dg hd9 none)) _ := hP
  have hD : va_D A (DOW G dh dv hd9 tl9 ++ QAW G dv (va_up dg hd9 none)) := hD
  refine va_put (D := G.1) (ci := 8) (v := .int (nI ((hd9 + 1) % 17))) (ty := .int) (C := RJ1) (T := TJ1) (N := 3) hx hb hts in_J1 tyJ1 tyJ1_ok nmJ1 hown hK hP hD hS 0 rfl rfl 1 (by decide) (hts _ q218) (fun _ h9 => h9) rfl (by decide +kernel) rfl rfl (Nat.le_of_ble_eq_true rfl) dJ1_pollFirst_31 (fun H locs hP hD hS => ?_)
  have hP : va_P G.1 CL (DOW G dh dv ((hd9 + 1) % 17) tl9 ++ QAW G dv (va_up dg hd9 none)) _ := hP
  have hD : va_D A (DOW G dh dv ((hd9 + 1) % 17) tl9 ++ QAW G dv (va_up dg hd9 none)) := hD
  refine lv_aload_n hx hb dJ1_pollFirst_34 rfl (lv_at hl 0 rfl) ?_
  subst hQ
  exact ret_r hx hb hr (Or.inl ⟨_, rfl⟩) hlk () rfl hP hD hS dJ1_pollFirst_35
set_option maxHeartbeats 4000000 in
set_option maxRecDepth 100000 in
theorem m_J1_pollLast__o (l : Launch) (G : GG) (dh : Nat) (dv : Nat) (hd9 : Nat) (tl9 : Nat) (dg : Nat → Option Nat) (x : Nat) (h1 : tl9 < 17) (h2 : dcN tl9 17 < 17) (hx1 : dg (dcN tl9 17) = some x) : MM l G yJ1_pollLast cJ1_pollLast 4 (some (.object "java/lang/Object")) ⟨1, 0, 0, 21⟩ [.ref dh] (DOW G dh dv hd9 tl9 ++ QAW G dv dg) (Qr_ G (fun (r : Nat) (_ : Unit) => r = x) (fun (r : Nat) (_ : Unit) => (DOW G dh dv hd9 (dcN tl9 17) ++ QAW G dv (va_up dg (dcN tl9 17) none)))) := by
  refine MM.of (by decide) (Nat.le_of_ble_eq_true rfl) ?_
  intro p e s m args below meth cd A C hini hA hK hZ hP hD ls hl
  generalize hQ : MQ below ((Qr_ G (fun (r : Nat) (_ : Unit) => r = x) (fun (r : Nat) (_ : Unit) => (DOW G dh dv hd9 (dcN tl9 17) ++ QAW G dv (va_up dg (dcN tl9 17) none)))) A) args s (⟨1, 0, 0, 21⟩ : Room).cells (⟨1, 0, 0, 21⟩ : Room).slots A = Q
  obtain ⟨hx, hb, hr, hts, hown, hlk, hml⟩ := C
  have hown : s.vm.findClass RJ1 = some m.cls := hown
  have hS : va_S A s.heap s.heap [] := va_S.rf
  have hl : lv_has ls 4 [(0, .ref dh)] := hl
  refine lv_aload_n hx hb dJ1_pollLast_0 rfl (lv_at hl 0 rfl) ?_
  refine va_get (D := G.1) (ci := 8) (v := .ref dv) (C := RJ1) (T := TJ1) (N := 3) hx hb hts in_J1 hown hK hP 0 rfl rfl 0 (by decide) (hts _ q215) (fun _ h9 => h9) rfl dJ1_pollLast_1 ?_
  refine lv_dup hx hb dJ1_pollLast_4 rfl ?_
  refine lv_astore_n (lv' := [(1, .ref dv), (0, .ref dh)]) hx hb dJ1_pollLast_5 rfl hl (by decide) rfl (fun ls hl => ?_)
  refine lv_aload_n hx hb dJ1_pollLast_6 rfl (lv_at hl 1 rfl) ?_
  refine va_get (D := G.1) (ci := 8) (v := .int (nI tl9)) (C := RJ1) (T := TJ1) (N := 3) hx hb hts in_J1 hown hK hP 0 rfl rfl 2 (by decide) (hts _ q219) (fun _ h9 => h9) rfl dJ1_pollLast_7 ?_
  refine lv_aload_n hx hb dJ1_pollLast_10 rfl (lv_at hl 0 rfl) ?_
  refine va_alen (v := nI 17) hx hb hK hP 1 6 rfl rfl rfl dJ1_pollLast_11 ?_
  refine callSi (As := [.int (nI tl9), .int (nI 17)]) (rest := [.ref dv]) (wc := ([] : va_W)) (wr := (DOW G dh dv hd9 tl9 ++ QAW G dv dg)) ⟨hx, hb, hml, hown, hts⟩ (m_J1_dec l G tl9 17 (by first | assumption | omega) (by first | assumption | omega) (by first | assumption | omega)) (va_cwS 2 hts (lw_S q1703 q1704 q92 q1705) rfl rfl rfl (by decide +kernel) ⟨Nat.le_of_ble_eq_true rfl, Nat.le_of_ble_eq_true rfl⟩) hK hZ hA hP hD hS [] [0, 1] rfl rfl (by decide) (by decide) (by decide) rfl hl.1 (Nat.le_of_ble_eq_true rfl) ⟨Nat.le_of_ble_eq_true rfl, Nat.le_of_ble_eq_true rfl⟩ rfl dJ1_pollLast_12 (fun r9 u9 H locs hw9 hP hD hS => ?_)
  subst hw9
  have hP : va_P G.1 CL (DOW G dh dv hd9 tl9 ++ QAW G dv dg) _ := hP
  have hD : va_D A (DOW G dh dv hd9 tl9 ++ QAW G dv dg) := hD
  refine lv_dup hx hb dJ1_pollLast_15 rfl ?_
  refine lv_istore_n (lv' := [(2, .int (nI (dcN tl9 17))), (1, .ref dv), (0, .ref dh)]) hx hb dJ1_pollLast_16 rfl hl (by decide) rfl (fun ls hl => ?_)
  refine callSq (As := [.ref dv, .int (nI (dcN tl9 17))]) (rest := []) (wc := (QAW G dv dg)) (wr := (DOW G dh dv hd9 tl9)) ⟨hx, hb, hml, hown, hts⟩ (m_J1_elementAt l G dv dg (dcN tl9 17) (by first | assumption | omega)) (va_cwS 2 hts (lw_S q1152 q1153 q92 q1154) rfl rfl rfl (by decide +kernel) ⟨Nat.le_of_ble_eq_true rfl, Nat.le_of_ble_eq_true rfl⟩) hK hZ hA hP hD hS [1] [0] rfl rfl (by decide) (by decide) (by decide) rfl hl.1 (Nat.le_of_ble_eq_true rfl) ⟨Nat.le_of_ble_eq_true rfl, Nat.le_of_ble_eq_true rfl⟩ rfl dJ1_pollLast_17 (fun r9 u9 H locs hw9 hP hD hS => ?_)
  subst hw9
  have hP : va_P G.1 CL (DOW G dh dv hd9 tl9 ++ QAW G dv dg) _ := hP
  have hD : va_D A (DOW G dh dv hd9 tl9 ++ QAW G dv dg) := hD
  refine eq_v (y := .ref x) (by rw [hx1]; rfl) ?_
  refine lv_astore_n (lv' := [(3, .ref x), (2, .int (nI (dcN tl9 17))), (1, .ref dv), (0, .ref dh)]) hx hb dJ1_pollLast_20 rfl hl (by decide) rfl (fun ls hl => ?_)
  refine lv_aload_n hx hb dJ1_pollLast_21 rfl (lv_at hl 0 rfl) ?_
  refine lv_ifnull hx hb dJ1_pollLast_22 ?_
  refine lv_aload_n hx hb dJ1_pollLast_25 rfl (lv_at hl 2 rfl) ?_
  refine lv_aload_n hx hb dJ1_pollLast_26 rfl (lv_at hl 3 rfl) ?_
  refine lv_iload_n hx hb dJ1_pollLast_27 rfl (lv_at hl 1 rfl) ?_
  refine lv_dup_x1 hx hb dJ1_pollLast_28 rfl rfl ?_
  refine va_put (D := G.1) (ci := 8) (v := .int (nI (dcN tl9 17))) (ty := .int) (C := RJ1) (T := TJ1) (N := 3) hx hb hts in_J1 tyJ1 tyJ1_ok nmJ1 hown hK hP hD hS 0 rfl rfl 2 (by decide) (hts _ q219) (fun _ h9 => h9) rfl (by decide +kernel) rfl rfl (Nat.le_of_ble_eq_true rfl) dJ1_pollLast_29 (fun H locs hP hD hS => ?_)
  have hP : va_P G.1 CL (DOW G dh dv hd9 (dcN tl9 17) ++ QAW G dv dg) _ := hP
  have hD : va_D A (DOW G dh dv hd9 (dcN tl9 17) ++ QAW G dv dg) := hD
  refine lv_null hx hb dJ1_pollLast_32 ?_
  refine q_aastN hx hb hK hP hD hS 1 rfl (by omega) (by decide) dJ1_pollLast_33 (fun H locs hP hD hS => ?_)
  have hP : va_P G.1 CL (DOW G dh dv hd9 (dcN tl9 17) ++ QAW G dv (va_up dg (dcN tl9 17) none)) _ := hP
  have hD : va_D A (DOW G dh dv hd9 (dcN tl9 17) ++ QAW G dv (va_up dg (dcN tl9 17) none)) := hD
  refine lv_aload_n hx hb dJ1_pollLast_34 rfl (lv_at hl 0 rfl) ?_
  subst hQ
  exact ret_r hx hb hr (Or.inl ⟨_, rfl⟩) hlk () rfl hP hD hS dJ1_pollLast_35
set_option maxHeartbeats 4000000 in
set_option maxRecDepth 100000 in
theorem m_J1_addLast__oP (l : Launch) (G : GG) (dh : Nat) (dv : Nat) (hd9 : Nat) (tl9 : Nat) (dg : Nat → Option Nat) (ph : Nat) (pd : Nat → Nat) (nr : Nat) (nc : Nat) (pL : Nat → Nat) (pG : Nat → Nat) (pB : Nat → Bool) (pk : Nat → Int32) (pa : Nat → Nat) (pt : Nat → Nat) (pm : Nat) (h1 : tl9 < 17) (h2 : ¬ hd9 = (tl9 + 1) % 17) (h3 : hd9 < 17) : MM l G yJ1_addLast cJ1_addLast 3 none ⟨1, 0, 0, 21⟩ [.ref dh, .ref ph] (DOW G dh dv hd9 tl9 ++ QAW G dv dg ++ PW G ph pd nr nc pL pG pB pk pa pt pm) (Qv_ G (fun (_ : Unit) => True) (fun (_ : Unit) => (DOW G dh dv hd9 ((tl9 + 1) % 17) ++ QAW G dv (va_up dg tl9 (some ph)) ++ PW G ph pd nr nc pL pG pB pk pa pt pm))) := by
  refine MM.of (by decide) (Nat.le_of_ble_eq_true rfl) ?_
  intro p e s m args below meth cd A C hini hA hK hZ hP hD ls hl
  generalize hQ : MQ below ((Qv_ G (fun (_ : Unit) => True) (fun (_ : Unit) => (DOW G dh dv hd9 ((tl9 + 1) % 17) ++ QAW G dv (va_up dg tl9 (some ph)) ++ PW G ph pd nr nc pL pG pB pk pa pt pm))) A) args s (⟨1, 0, 0, 21⟩ : Room).cells (⟨1, 0, 0, 21⟩ : Room).slots A = Q
  obtain ⟨hx, hb, hr, hts, hown, hlk, hml⟩ := C
  have hown : s.vm.findClass RJ1 = some m.cls := hown
  have hS : va_S A s.heap s.heap [] := va_S.rf
  have hl : lv_has ls 3 [(0, .ref dh), (1, .ref ph)] := hl
  refine lv_aload_n hx hb dJ1_addLast_0 rfl (lv_at hl 1 rfl) ?_
  refine lv_ifnonnull (tgt := 12) hx hb dJ1_addLast_1 (by decide) ?_
  refine lv_aload_n hx hb dJ1_addLast_12 rfl (lv_at hl 0 rfl) ?_
  refine va_get (D := G.1) (ci := 8) (v := .ref dv) (C := RJ1) (T := TJ1) (N := 3) hx hb hts in_J1 hown hK hP 0 rfl rfl 0 (by decide) (hts _ q215) (fun _ h9 => h9) rfl dJ1_addLast_13 ?_
  refine lv_astore_n (lv' := [(2, .ref dv), (0, .ref dh), (1, .ref ph)]) hx hb dJ1_addLast_16 rfl hl (by decide) rfl (fun ls hl => ?_)
  refine lv_aload_n hx hb dJ1_addLast_17 rfl (lv_at hl 0 rfl) ?_
  refine lv_aload_n hx hb dJ1_addLast_18 rfl (lv_at hl 1 rfl) ?_
  refine va_get (D := G.1) (ci := 8) (v := .int (nI tl9)) (C := RJ1) (T := TJ1) (N := 3) hx hb hts in_J1 hown hK hP 0 rfl rfl 2 (by decide) (hts _ q219) (fun _ h9 => h9) rfl dJ1_addLast_19 ?_
  refine lv_aload_n hx hb dJ1_addLast_22 rfl (lv_at hl 2 rfl) ?_
  refine q_aastO hx hb hK hP hD hS 1 2 1 rfl (KS.nw hZ q2196 rfl) rfl rfl (by omega) (by decide) dJ1_addLast_23 (fun H locs hP hD hS => ?_)
  have hP : va_P G.1 CL (DOW G dh dv hd9 tl9 ++ QAW G dv (va_up dg tl9 (some ph)) ++ PW G ph pd nr nc pL pG pB pk pa pt pm) _ := hP
  have hD : va_D A (DOW G dh dv hd9 tl9 ++ QAW G dv (va_up dg tl9 (some ph)) ++ PW G ph pd nr nc pL pG pB pk pa pt pm) := hD
  refine lv_aload_n hx hb dJ1_addLast_24 rfl (lv_at hl 1 rfl) ?_
  refine va_get (D := G.1) (ci := 8) (v := .int (nI hd9)) (C := RJ1) (T := TJ1) (N := 3) hx hb hts in_J1 hown hK hP 0 rfl rfl 1 (by decide) (hts _ q218) (fun _ h9 => h9) rfl dJ1_addLast_25 ?_
  refine lv_aload_n hx hb dJ1_addLast_28 rfl (lv_at hl 1 rfl) ?_
  refine lv_aload_n hx hb dJ1_addLast_29 rfl (lv_at hl 1 rfl) ?_
  refine va_get (D := G.1) (ci := 8) (v := .int (nI tl9)) (C := RJ1) (T := TJ1) (N := 3) hx hb hts in_J1 hown hK hP 0 rfl rfl 2 (by decide) (hts _ q219) (fun _ h9 => h9) rfl dJ1_addLast_30 ?_
  refine lv_aload_n hx hb dJ1_addLast_33 rfl (lv_at hl 0 rfl) ?_
  refine va_alen (v := nI 17) hx hb hK hP 1 6 rfl rfl rfl dJ1_addLast_34 ?_
  refine callSi (As := [.int (nI tl9), .int (nI 17)]) (rest := [.ref dh, .int (nI hd9)]) (wc := ([] : va_W)) (wr := (DOW G dh dv hd9 tl9 ++ QAW G dv (va_up dg tl9 (some ph)) ++ PW G ph pd nr nc pL pG pB pk pa pt pm)) ⟨hx, hb, hml, hown, hts⟩ (m_J1_inc l G tl9 17 (by first | assumption | omega) (by first | assumption | omega)) (va_cwS 2 hts (lw_S q301 q302 q92 q303) rfl rfl rfl (by decide +kernel) ⟨Nat.le_of_ble_eq_true rfl, Nat.le_of_ble_eq_true rfl⟩) hK hZ hA hP hD hS [] [0, 1, 2, 3, 4, 5, 6, 7] rfl rfl (by decide) (by decide) (by decide) rfl hl.1 (Nat.le_of_ble_eq_true rfl) ⟨Nat.le_of_ble_eq_true rfl, Nat.le_of_ble_eq_true rfl⟩ rfl dJ1_addLast_35 (fun r9 u9 H locs hw9 hP hD hS => ?_)
  subst hw9
  have hP : va_P G.1 CL (DOW G dh dv hd9 tl9 ++ QAW G dv (va_up dg tl9 (some ph)) ++ PW G ph pd nr nc pL pG pB pk pa pt pm) _ := hP
  have hD : va_D A (DOW G dh dv hd9 tl9 ++ QAW G dv (va_up dg tl9 (some ph)) ++ PW G ph pd nr nc pL pG pB pk pa pt pm) := hD
  refine lv_dup_x1 hx hb dJ1_addLast_38 rfl rfl ?_
  refine va_put (D := G.1) (ci := 8) (v := .int (nI ((tl9 + 1) % 17))) (ty := .int) (C := RJ1) (T := TJ1) (N := 3) hx hb hts in_J1 tyJ1 tyJ1_ok nmJ1 hown hK hP hD hS 0 rfl rfl 2 (by decide) (hts _ q219) (fun _ h9 => h9) rfl (by decide +kernel) rfl rfl (Nat.le_of_ble_eq_true rfl) dJ1_addLast_39 (fun H locs hP hD hS => ?_)
  have hP : va_P G.1 CL (DOW G dh dv hd9 ((tl9 + 1) % 17) ++ QAW G dv (va_up dg tl9 (some ph)) ++ PW G ph pd nr nc pL pG pB pk pa pt pm) _ := hP
  have hD : va_D A (DOW G dh dv hd9 ((tl9 + 1) % 17) ++ QAW G dv (va_up dg tl9 (some ph)) ++ PW G ph pd nr nc pL pG pB pk pa pt pm) := hD
  refine n_cmp_ne (tgt := 50) hx hb dJ1_addLast_42 (by decide) (by omega) (by have := Nat.mod_lt (tl9 + 1) (show 0 < 17 by decide); omega) (fun c42 => ?_) (fun c42 => ?_)
  rotate_left
  · exact absurd c42 (by omega)
  subst hQ
  exact ret_v hx hb hr hlk () trivial hP hD hS dJ1_addLast_50
set_option maxHeartbeats 4000000 in
set_option maxRecDepth 100000 in
theorem m_J1_addLast__oI (l : Launch) (G : GG) (dh : Nat) (dv : Nat) (hd9 : Nat) (tl9 : Nat) (dg : Nat → Option Nat) (k : Nat) (h1 : tl9 < 17) (h2 : ¬ hd9 = (tl9 + 1) % 17) (h3 : hd9 < 17) (hIC : ICok G) (hk : k < 256) : MM l G yJ1_addLast cJ1_addLast 3 none ⟨1, 0, 0, 21⟩ [.ref dh, .ref (icA G k)] (DOW G dh dv hd9 tl9 ++ QAW G dv dg) (Qv_ G (fun (_ : Unit) => True) (fun (_ : Unit) => (DOW G dh dv hd9 ((tl9 + 1) % 17) ++ QAW G dv (va_up dg tl9 (some (icA G k)))))) := by
  refine MM.of (by decide) (Nat.le_of_ble_eq_true rfl) ?_
  intro p e s m args below meth cd A C hini hA hK hZ hP hD ls hl
  generalize hQ : MQ below ((Qv_ G (fun (_ : Unit) => True) (fun (_ : Unit) => (DOW G dh dv hd9 ((tl9 + 1) % 17) ++ QAW G dv (va_up dg tl9 (some (icA G k)))))) A) args s (⟨1, 0, 0, 21⟩ : Room).cells (⟨1, 0, 0, 21⟩ : Room).slots A = Q
  obtain ⟨hx, hb, hr, hts, hown, hlk, hml⟩ := C
  have hown : s.vm.findClass RJ1 = some m.cls := hown
  have hS : va_S A s.heap s.heap [] := va_S.rf
  have hl : lv_has ls 3 [(0, .ref dh), (1, .ref (icA G k))] := hl
  refine lv_aload_n hx hb dJ1_addLast_0 rfl (lv_at hl 1 rfl) ?_
  refine lv_ifnonnull (tgt := 12) hx hb dJ1_addLast_1 (by decide) ?_
  refine lv_aload_n hx hb dJ1_addLast_12 rfl (lv_at hl 0 rfl) ?_
  refine va_get (D := G.1) (ci := 8) (v := .ref dv) (C := RJ1) (T := TJ1) (N := 3) hx hb hts in_J1 hown hK hP 0 rfl rfl 0 (by decide) (hts _ q215) (fun _ h9 => h9) rfl dJ1_addLast_13 ?_
  refine lv_astore_n (lv' := [(2, .ref dv), (0, .ref dh), (1, .ref (icA G k))]) hx hb dJ1_addLast_16 rfl hl (by decide) rfl (fun ls hl => ?_)
  refine lv_aload_n hx hb dJ1_addLast_17 rfl (lv_at hl 0 rfl) ?_
  refine lv_aload_n hx hb dJ1_addLast_18 rfl (lv_at hl 1 rfl) ?_
  refine va_get (D := G.1) (ci := 8) (v := .int (nI tl9)) (C := RJ1) (T := TJ1) (N := 3) hx hb hts in_J1 hown hK hP 0 rfl rfl 2 (by decide) (hts _ q219) (fun _ h9 => h9) rfl dJ1_addLast_19 ?_
  refine lv_aload_n hx hb dJ1_addLast_22 rfl (lv_at hl 2 rfl) ?_
  refine q_aastI hx hb hK hZ hIC (KS.nw hZ q2210 rfl) hP hD hS 1 (by omega) rfl (by omega) (by decide) dJ1_addLast_23 (fun H locs hP hD hS => ?_)
  have hP : va_P G.1 CL (DOW G dh dv hd9 tl9 ++ QAW G dv (va_up dg tl9 (some (icA G k)))) _ := hP
  have hD : va_D A (DOW G dh dv hd9 tl9 ++ QAW G dv (va_up dg tl9 (some (icA G k)))) := hD
  refine lv_aload_n hx hb dJ1_addLast_24 rfl (lv_at hl 1 rfl) ?_
  refine va_get (D := G.1) (ci := 8) (v := .int (nI hd9)) (C := RJ1) (T := TJ1) (N := 3) hx hb hts in_J1 hown hK hP 0 rfl rfl 1 (by decide) (hts _ q218) (fun _ h9 => h9) rfl dJ1_addLast_25 ?_
  refine lv_aload_n hx hb dJ1_addLast_28 rfl (lv_at hl 1 rfl) ?_
  refine lv_aload_n hx hb dJ1_addLast_29 rfl (lv_at hl 1 rfl) ?_
  refine va_get (D := G.1) (ci := 8) (v := .int (nI tl9)) (C := RJ1) (T := TJ1) (N := 3) hx hb hts in_J1 hown hK hP 0 rfl rfl 2 (by decide) (hts _ q219) (fun _ h9 => h9) rfl dJ1_addLast_30 ?_
  refine lv_aload_n hx hb dJ1_addLast_33 rfl (lv_at hl 0 rfl) ?_
  refine va_alen (v := nI 17) hx hb hK hP 1 6 rfl rfl rfl dJ1_addLast_34 ?_
  refine callSi (As := [.int (nI tl9), .int (nI 17)]) (rest := [.ref dh, .int (nI hd9)]) (wc := ([] : va_W)) (wr := (DOW G dh dv hd9 tl9 ++ QAW G dv (va_up dg tl9 (some (icA G k))))) ⟨hx, hb, hml, hown, hts⟩ (m_J1_inc l G tl9 17 (by first | assumption | omega) (by first | assumption | omega)) (va_cwS 2 hts (lw_S q301 q302 q92 q303) rfl rfl rfl (by decide +kernel) ⟨Nat.le_of_ble_eq_true rfl, Nat.le_of_ble_eq_true rfl⟩) hK hZ hA hP hD hS [] [0, 1] rfl rfl (by decide) (by decide) (by decide) rfl hl.1 (Nat.le_of_ble_eq_true rfl) ⟨Nat.le_of_ble_eq_true rfl, Nat.le_of_ble_eq_true rfl⟩ rfl dJ1_addLast_35 (fun r9 u9 H locs hw9 hP hD hS => ?_)
  subst hw9
  have hP : va_P G.1 CL (DOW G dh dv hd9 tl9 ++ QAW G dv (va_up dg tl9 (some (icA G k)))) _ := hP
  have hD : va_D A (DOW G dh dv hd9 tl9 ++ QAW G dv (va_up dg tl9 (some (icA G k)))) := hD
  refine lv_dup_x1 hx hb dJ1_addLast_38 rfl rfl ?_
  refine va_put (D := G.1) (ci := 8) (v := .int (nI ((tl9 + 1) % 17))) (ty := .int) (C := RJ1) (T := TJ1) (N := 3) hx hb hts in_J1 tyJ1 tyJ1_ok nmJ1 hown hK hP hD hS 0 rfl rfl 2 (by decide) (hts _ q219) (fun _ h9 => h9) rfl (by decide +kernel) rfl rfl (Nat.le_of_ble_eq_true rfl) dJ1_addLast_39 (fun H locs hP hD hS => ?_)
  have hP : va_P G.1 CL (DOW G dh dv hd9 ((tl9 + 1) % 17) ++ QAW G dv (va_up dg tl9 (some (icA G k)))) _ := hP
  have hD : va_D A (DOW G dh dv hd9 ((tl9 + 1) % 17) ++ QAW G dv (va_up dg tl9 (some (icA G k)))) := hD
  refine n_cmp_ne (tgt := 50) hx hb dJ1_addLast_42 (by decide) (by omega) (by have := Nat.mod_lt (tl9 + 1) (show 0 < 17 by decide); omega) (fun c42 => ?_) (fun c42 => ?_)
  rotate_left
  · exact absurd c42 (by omega)
  subst hQ
  exact ret_v hx hb hr hlk () trivial hP hD hS dJ1_addLast_50
