/-- a builder's two cells: (its bytes' place, how many, two a char, maybe, chars, bytes) -/
abbrev SBZ : Type := Nat × Nat × Bool × Bool × Nat × (Nat → Nat)
abbrev SBB (G : GG) (h : Nat) (z : SBZ) : va_W := SBW G h z.1 z.2.1 z.2.2.1 z.2.2.2.1 z.2.2.2.2.1 z.2.2.2.2.2
/-- it holds these chars -/
def SBh (z : SBZ) (xs : List Nat) : Prop := z.2.2.2.2.1 = xs.length ∧ SBR z.2.1 z.2.2.1 xs.length z.2.2.2.2.2 (fun j => xs.getD j 0) ∧ ∀ j, xs.getD j 0 < 65536
theorem SBR.congr {cap n : Nat} {cd : Bool} {f tx ty : Nat → Nat} (h : SBR cap cd n f tx) (he : ∀ j, j < n → tx j = ty j) : SBR cap cd n f ty :=
  ⟨h.1, fun e => ⟨(h.2.1 e).1, (h.2.1 e).2.1, fun i hi => ((h.2.1 e).2.2 i hi).trans (he i hi)⟩, fun e => ⟨(h.2.2 e).1, (h.2.2 e).2.1, (h.2.2 e).2.2.1, fun i hi => ((h.2.2 e).2.2.2 i hi).trans (he i hi)⟩⟩
theorem getD_push (xs : List Nat) (x j : Nat) : (xs ++ [x]).getD j 0 = if j = xs.length then x else xs.getD j 0 := by
  by_cases h : j < xs.length
  · rw [if_neg (by omega)]; simp [List.getElem?_append_left h]
  · by_cases e : j = xs.length
    · subst e; simp
    · rw [if_neg e]; simp [List.getElem?_eq_none (show (xs ++ [x]).length ≤ j by simp; omega), List.getElem?_eq_none (show xs.length ≤ j by omega)]
theorem SBh.push {xs : List Nat} {x cap2 v2 sn : Nat} {cd2 ml : Bool} {g f : Nat → Nat} {cap : Nat} {cd : Bool} {v : Nat} (h : SBh (v, cap, cd, ml, sn, f) xs) (hx : x < 65536) (hp : SBR cap2 cd2 (xs.length + 1) g (va_up (fun j => xs.getD j 0) xs.length x)) : SBh (v2, cap2, cd2, ml, xs.length + 1, g) (xs ++ [x]) := by
  refine ⟨by simp, ?_, fun j => ?_⟩
  · rw [show (xs ++ [x]).length = xs.length + 1 by simp]
    exact hp.congr (fun j hj => by rw [getD_push]; unfold va_up; rfl)
  · rw [getD_push]; split; exact hx; exact h.2.2 j
theorem SBh.len {z : SBZ} {xs : List Nat} (h : SBh z xs) : xs.length ≤ 60 := h.2.1.1
set_option maxHeartbeats 4000000 in
set_option maxRecDepth 100000 in
theorem m_J3_append_3 (l : Launch) (G : GG) (sh : Nat) (sz : SBZ) (xs : List Nat) (x : Nat) (hz : SBh sz xs) (hn : xs.length < 60) (hx1 : x < 65536) : MM l G yJ3_append_3 cJ3_append_3 2 (some (.object "java/lang/StringBuilder")) ⟨7, 2, 490, 158⟩ [.ref sh, .int (nI x)] (SBB G sh sz) (Qr_ G (fun (r : Nat) (u : (SBZ)) => (r = sh) ∧ (SBh u (xs ++ [x]))) (fun (r : Nat) (u : (SBZ)) => (SBB G sh u))) := by
  rcases sz with ⟨va, cap, ck, ml, sn, yf⟩
  obtain ⟨e1, hR, hc⟩ := id hz
  dsimp only at e1
  subst e1
  cases ck with
  | false =>
    refine (m_J3_append_3__L l G sh va ml xs.length cap yf (fun j => xs.getD j 0) x hR hn hx1).mono (fun A a s o t h => ?_)
    obtain ⟨⟨u, r, e, -, ⟨hr, hp⟩, hB⟩, hF⟩ := h
    exact ⟨⟨(u.1, u.2.1, u.2.2.1, ml, xs.length + 1, u.2.2.2), r, e, trivial, ⟨hr, hz.push hx1 hp⟩, hB⟩, hF⟩
  | true =>
    refine (m_J3_append_3__U l G sh va ml xs.length cap yf (fun j => xs.getD j 0) x hR hn hx1).mono (fun A a s o t h => ?_)
    obtain ⟨⟨u, r, e, -, ⟨hr, hp⟩, hB⟩, hF⟩ := h
    exact ⟨⟨(u.1, u.2.1, u.2.2.1, ml, xs.length + 1, u.2.2.2), r, e, trivial, ⟨hr, hz.push hx1 hp⟩, hB⟩, hF⟩
set_option maxHeartbeats 4000000 in
set_option maxRecDepth 100000 in
theorem m_J3_charAt (l : Launch) (G : GG) (sh : Nat) (sz : SBZ) (xs : List Nat) (i : Nat) (hz : SBh sz xs) (hi : i < xs.length) : MM l G yJ3_charAt cJ3_charAt 2 (some .char) ⟨3, 0, 0, 67⟩ [.ref sh, .int (nI i)] (SBB G sh sz) (Qi_ G (fun (r : Int32) (_ : Unit) => r = nI (xs.getD i 0)) (fun (_ : Unit) => (SBB G sh sz))) := by
  rcases sz with ⟨va, cap, ck, ml, sn, yf⟩
  obtain ⟨e1, hR, hc⟩ := id hz
  dsimp only at e1
  subst e1
  cases ck with
  | false => exact m_J3_charAt__L l G sh va ml xs.length cap yf (fun j => xs.getD j 0) i hR hi (hc i)
  | true => exact m_J3_charAt__U l G sh va ml xs.length cap yf (fun j => xs.getD j 0) i hR hi (hc i)
set_option maxHeartbeats 4000000 in
set_option maxRecDepth 100000 in
theorem m_J3_setLength (l : Launch) (G : GG) (sh : Nat) (sz : SBZ) (xs : List Nat) (hz : SBh sz xs) : MM l G yJ3_setLength cJ3_setLength 2 none ⟨2, 0, 0, 43⟩ [.ref sh, .int (nI 0)] (SBB G sh sz) (Qv_ G (fun (u : (SBZ)) => SBh u []) (fun (u : (SBZ)) => (SBB G sh u))) := by
  rcases sz with ⟨va, cap, ck, ml, sn, yf⟩
  obtain ⟨e1, hR, hc⟩ := id hz
  dsimp only at e1
  subst e1
  cases ck with
  | false =>
    refine (m_J3_setLength__L l G sh va ml xs.length cap yf (fun j => xs.getD j 0) hR).mono (fun A a s o t h => ?_)
    obtain ⟨⟨u, e, hp, hB⟩, hF⟩ := h
    exact ⟨⟨(va, cap, false, u, 0, yf), e, ⟨rfl, sb0 _ hR, fun j => by simp⟩, hB⟩, hF⟩
  | true =>
    refine (m_J3_setLength__U l G sh va ml xs.length cap yf (fun j => xs.getD j 0) hR).mono (fun A a s o t h => ?_)
    obtain ⟨⟨u, e, hp, hB⟩, hF⟩ := h
    exact ⟨⟨(va, cap, true, u, 0, yf), e, ⟨rfl, sb0 _ hR, fun j => by simp⟩, hB⟩, hF⟩
set_option maxHeartbeats 4000000 in
set_option maxRecDepth 100000 in
theorem m_J3_length (l : Launch) (G : GG) (sh : Nat) (sz : SBZ) (xs : List Nat) (hz : SBh sz xs) : MM l G yJ3_length cJ3_length 1 (some .int) ⟨1, 0, 0, 20⟩ [.ref sh] (SBB G sh sz) (Qi_ G (fun (r : Int32) (_ : Unit) => r = nI xs.length) (fun (_ : Unit) => (SBB G sh sz))) := by
  rcases sz with ⟨va, cap, ck, ml, sn, yf⟩
  obtain ⟨e1, hR, hc⟩ := id hz
  dsimp only at e1
  subst e1
  exact m_J3_length__o l G sh va ck ml xs.length cap yf
set_option maxHeartbeats 4000000 in
set_option maxRecDepth 100000 in
theorem m_J3_init__z (l : Launch) (G : GG) (sh : Nat)  : MM l G yJ3_init cJ3_init 1 none ⟨2, 1, 16, 33⟩ [.ref sh] (SIW G sh .null false false 0) (Qv_ G (fun (u : (SBZ)) => SBh u []) (fun (u : (SBZ)) => (SBB G sh u))) := by
  refine (m_J3_init l G sh .null false false 0).mono (fun A a s o t h => ?_)
  obtain ⟨⟨u, e, hp, hB⟩, hF⟩ := h
  exact ⟨⟨(u, 16, false, false, 0, fun _ => 0), e, ⟨rfl, ⟨by decide, fun _ => ⟨Nat.zero_le _, (by decide : 16 ≤ 122), fun i hi => absurd hi (Nat.not_lt_zero _)⟩, fun e => Bool.noConfusion e⟩, fun j => by simp⟩, hB⟩, hF⟩
