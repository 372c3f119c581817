/-! ===== the reference's numbers ===== -/
abbrev ZT : Type := Nat × Nat × (Nat → Nat) × (Nat → Nat) × (Nat → Bool) × (Nat → Int32)
def gk (v : Nat) : Int32 := if v = 46 then -1 else nI (v - 97)
def gZ (z : ZT) : Nat → Int32 := fun j => if j = 0 then nI z.1 else if j = 1 then nI z.2.1 else if j < 8 then z.2.2.2.2.2 (j - 2) else if j < 14 then bI (z.2.2.2.2.1 (j - 8)) else if j < 23 then nI (z.2.2.1 (j - 14) - 97) else gk (z.2.2.2.1 (j - 23))
def hZ (zs : Nat → ZT) : Nat → Int32 := fun j => gZ (zs (j / 32)) (j % 32)
theorem gk_n (v : Nat) : gk (97 + v) = nI v := by
  unfold gk; rw [if_neg (by omega)]; congr 1; omega
theorem gk_46 : gk 46 = -1 := rfl
section GZ
variable {nr nc : Nat} {L K : Nat → Nat} {B : Nat → Bool} {k : Nat → Int32} {p j v w : Nat} {b : Bool} {x : Int32}
theorem gZ_b (h : p < 6) : gZ (nr, nc, L, K, B, k) (8 + p) = bI (B p) := by
  unfold gZ; rw [if_neg (by omega), if_neg (by omega), if_neg (by omega), if_pos (by omega)]; show bI (B (8 + p - 8)) = _; rw [show 8 + p - 8 = p by omega]
theorem gZ_c (h : p < 9) : gZ (nr, nc, L, K, B, k) (14 + p) = nI (L p - 97) := by
  unfold gZ; rw [if_neg (by omega), if_neg (by omega), if_neg (by omega), if_neg (by omega), if_pos (by omega)]; show nI (L (14 + p - 14) - 97) = _; rw [show 14 + p - 14 = p by omega]
theorem gZ_k (h : p < 9) : gZ (nr, nc, L, K, B, k) (23 + p) = gk (K p) := by
  unfold gZ; rw [if_neg (by omega), if_neg (by omega), if_neg (by omega), if_neg (by omega), if_neg (by omega)]; show gk (K (23 + p - 23)) = _; rw [show 23 + p - 23 = p by omega]
theorem gZ_s0 : va_up (gZ (nr, nc, L, K, B, k)) 0 (nI v) = gZ (v, nc, L, K, B, k) := by
  funext j; unfold va_up gZ; by_cases h : j = 0 <;> simp [h]
theorem gZ_s1 : va_up (gZ (nr, nc, L, K, B, k)) 1 (nI v) = gZ (nr, v, L, K, B, k) := by
  funext j; unfold va_up gZ; by_cases h : j = 1 <;> simp [h]
theorem gZ_sk (h : j < 6) : va_up (gZ (nr, nc, L, K, B, k)) (j + 2) x = gZ (nr, nc, L, K, B, va_up k j x) := by
  funext i; unfold va_up gZ
  by_cases h1 : i = j + 2
  · subst h1; simp; omega
  · simp only [if_neg h1]
    by_cases h2 : i < 8
    · simp only [if_pos h2]
      by_cases h3 : i = 0
      · simp [h3]
      · by_cases h4 : i = 1
        · simp [h4]
        · simp only [if_neg h3, if_neg h4]; rw [if_neg (by omega)]
    · simp only [if_neg h2]
theorem gZ_sb (h : p < 6) : va_up (gZ (nr, nc, L, K, B, k)) (8 + p) (bI b) = gZ (nr, nc, L, K, va_up B p b, k) := by
  funext i; unfold va_up gZ
  by_cases h1 : i = 8 + p
  · subst h1; rw [if_pos rfl, if_neg (by omega), if_neg (by omega), if_neg (by omega), if_pos (by omega)]; show bI b = bI (if 8 + p - 8 = p then b else _); rw [if_pos (by omega)]
  · rw [if_neg h1]
    by_cases h2 : i < 8
    · simp only [if_pos h2]
    · by_cases h3 : i < 14
      · simp only [if_neg h2, if_pos h3]; rw [if_neg (show ¬ i - 8 = p by omega)]
      · simp only [if_neg h2, if_neg h3]
theorem gZ_sc (h : p < 9) : va_up (gZ (nr, nc, L, K, B, k)) (14 + p) (nI v) = gZ (nr, nc, va_up L p (97 + v), K, B, k) := by
  funext i; unfold va_up gZ
  by_cases h1 : i = 14 + p
  · subst h1; rw [if_pos rfl, if_neg (by omega), if_neg (by omega), if_neg (by omega), if_neg (by omega), if_pos (by omega)]; show nI v = nI ((if 14 + p - 14 = p then 97 + v else _) - 97); rw [if_pos (by omega)]; congr 1; omega
  · rw [if_neg h1]
    by_cases h2 : i < 14
    · simp only [if_pos h2]
    · by_cases h3 : i < 23
      · simp only [if_neg h2, if_pos h3]; rw [if_neg (show ¬ i - 14 = p by omega)]
      · simp only [if_neg h2, if_neg h3]
theorem gZ_sg (h : p < 9) (hx : gk w = x) : va_up (gZ (nr, nc, L, K, B, k)) (23 + p) x = gZ (nr, nc, L, va_up K p w, B, k) := by
  subst hx
  funext i; unfold va_up gZ
  by_cases h1 : i = 23 + p
  · subst h1; rw [if_pos rfl, if_neg (by omega), if_neg (by omega), if_neg (by omega), if_neg (by omega), if_neg (by omega)]; show gk w = gk (if 23 + p - 23 = p then w else _); rw [if_pos (by omega)]
  · rw [if_neg h1]
    by_cases h3 : i < 23
    · simp only [if_pos h3]
    · simp only [if_neg h3]; rw [if_neg (show ¬ i - 23 = p by omega)]
end GZ
abbrev MRW (G : GG) (h : Nat) (ad : Nat → Nat) (gr bf hi sv : Nat → Int32) (ch : Nat) (hs : Bool) (inp : Nat → Nat) (ty : Nat) (er wy wd : Int32) (rf : Bool) (lt : Nat → Nat) (ln : Nat) (th : Int32) (tr mv : Nat → Nat) (fo : Int32) (sp : Nat) (wr : Bool) (td : Nat → Int32) : va_W :=
  [(h, .inr (4, [.ref (ad 0), .ref (ad 1), .ref (ad 2), .int (nI ch), .ref (ad 3), .int (bI hs), .ref (ad 4), .int (nI ty), .int er, .int wy, .int wd, .int (bI rf), .ref (ad 5), .int (nI ln), .int th, .ref (ad 6), .ref (ad 7), .int fo, .int (nI sp), .int (bI wr), .ref (ad 8)])),
   (ad 0, .inl (G.2.1 3, 32, .inl gr)), (ad 1, .inl (G.2.1 3, 32, .inl bf)), (ad 2, .inl (G.2.1 3, 256, .inl hi)), (ad 3, .inl (G.2.1 3, 32, .inl sv)), (ad 4, .inl (G.2.1 2, 60, .inl (nA inp))), (ad 5, .inl (G.2.1 2, 20, .inl (nA lt))), (ad 6, .inl (G.2.1 3, 9, .inl (nA tr))), (ad 7, .inl (G.2.1 3, 9, .inl (nA mv))), (ad 8, .inl (G.2.1 3, 180, .inl td))]
abbrev MW (G : GG) (h : Nat) (ad : Nat → Nat) (nr nc : Nat) (L K : Nat → Nat) (B : Nat → Bool) (k : Nat → Int32) (bf hi sv : Nat → Int32) (ch : Nat) (hs : Bool) (inp : Nat → Nat) (ty : Nat) (er wy wd : Int32) (rf : Bool) (lt : Nat → Nat) (ln : Nat) (th : Int32) (tr mv : Nat → Nat) (fo : Int32) (sp : Nat) (wr : Bool) (td : Nat → Int32) : va_W := MRW G h ad (gZ (nr, nc, L, K, B, k)) bf hi sv ch hs inp ty er wy wd rf lt ln th tr mv fo sp wr td
theorem cpy_0 {f g : Nat → Int32} {sp dp : Nat} : g = va_cpy f g sp dp 0 := by
  funext j; unfold va_cpy; rw [if_neg (by omega)]
theorem cpy_s {f g : Nat → Int32} {sp dp i : Nat} : va_up (va_cpy f g sp dp i) (dp + i) (f (sp + i)) = va_cpy f g sp dp (i + 1) := by
  funext j; unfold va_up va_cpy
  by_cases h : j = dp + i
  · subst h; rw [if_pos rfl, if_pos (by omega)]; congr 1; omega
  · rw [if_neg h]
    by_cases h2 : dp ≤ j ∧ j < dp + i
    · rw [if_pos h2, if_pos (by omega)]
    · rw [if_neg h2, if_neg (by omega)]
theorem cpy_a {f g : Nat → Int32} {j : Nat} (h : j < 32) : va_cpy f g 0 0 32 j = f j := by unfold va_cpy; rw [if_pos (by omega)]; congr 1; omega
set_option maxHeartbeats 4000000 in
set_option maxRecDepth 100000 in
theorem m_X5_in (l : Launch) (G : GG) (iv : Int32) (lo : Int32) (hi : Int32)  : MM l G yX5_in cX5_in 3 (some .boolean) ⟨0, 0, 0, 0⟩ [.int iv, .int lo, .int hi] ([] : va_W) (Qi_ G (fun (r : Int32) (_ : Unit) => r = bI (decide (lo ≤ iv ∧ iv ≤ hi))) (fun (_ : Unit) => ([] : va_W))) := by
  refine MM.of (by decide) (Nat.le_of_ble_eq_true rfl) ?_
  intro p e s m args below meth cd A C hini hA hK hZ hP hD ls hl
  generalize hQ : MQ below ((Qi_ G (fun (r : Int32) (_ : Unit) => r = bI (decide (lo ≤ iv ∧ iv ≤ hi))) (fun (_ : Unit) => ([] : va_W))) A) args s (⟨0, 0, 0, 0⟩ : Room).cells (⟨0, 0, 0, 0⟩ : Room).slots A = Q
  obtain ⟨hx, hb, hr, hts, hown, hlk, hml⟩ := C
  have hown : s.vm.findClass RX5 = some m.cls := hown
  have hS : va_S A s.heap s.heap [] := va_S.rf
  have hl : lv_has ls 3 [(0, .int iv), (1, .int lo), (2, .int hi)] := hl
  refine lv_iload_n hx hb dX5_in_0 rfl (lv_at hl 0 rfl) ?_
  refine lv_iload_n hx hb dX5_in_1 rfl (lv_at hl 1 rfl) ?_
  refine lv_icmp_lt (tgt := 14) hx hb dX5_in_2 (by decide) (fun c2 => ?_) (fun c2 => ?_)
  · skip
    refine lv_iconst (v := nI 0) hx hb dX5_in_14 (by decide) ?_
    subst hQ
    exact ret_i hx hb hr hlk () (bI_d0 (by first | exact fun h => absurd h.1 (Int32.not_le.mpr c2) | exact fun h => absurd h.2 (Int32.not_le.mpr c7))) hP hD hS rfl dX5_in_15
  · skip
    refine lv_iload_n hx hb dX5_in_5 rfl (lv_at hl 0 rfl) ?_
    refine lv_iload_n hx hb dX5_in_6 rfl (lv_at hl 2 rfl) ?_
    refine lv_icmp_gt (tgt := 14) hx hb dX5_in_7 (by decide) (fun c7 => ?_) (fun c7 => ?_)
    · skip
      refine lv_iconst (v := nI 0) hx hb dX5_in_14 (by decide) ?_
      subst hQ
      exact ret_i hx hb hr hlk () (bI_d0 (by first | exact fun h => absurd h.1 (Int32.not_le.mpr c2) | exact fun h => absurd h.2 (Int32.not_le.mpr c7))) hP hD hS rfl dX5_in_15
    · skip
      refine lv_iconst (v := nI 1) hx hb dX5_in_10 (by decide) ?_
      refine lv_goto (tgt := 15) hx hb dX5_in_11 (by decide) ?_
      subst hQ
      exact ret_i hx hb hr hlk () (bI_d1 ⟨Int32.not_lt.mp c2, Int32.not_lt.mp c7⟩) hP hD hS rfl dX5_in_15
set_option maxHeartbeats 4000000 in
set_option maxRecDepth 100000 in
theorem m_X5_thrown (l : Launch) (G : GG) (mh : Nat) (md : Nat → Nat) (nr : Nat) (nc : Nat) (pL : Nat → Nat) (pG : Nat → Nat) (pB : Nat → Bool) (pk : Nat → Int32) (bf : Nat → Int32) (hi : Nat → Int32) (sv : Nat → Int32) (ch : Nat) (hs : Bool) (inp : Nat → Nat) (ty : Nat) (er : Int32) (wy : Int32) (wd : Int32) (rf : Bool) (lt : Nat → Nat) (ln : Nat) (th : Int32) (tr : Nat → Nat) (mv : Nat → Nat) (fo : Int32) (sp : Nat) (wr : Bool) (td : Nat → Int32)  : MM l G yX5_thrown cX5_thrown 1 (some .int) ⟨0, 0, 0, 0⟩ [.ref mh] (MW G mh md nr nc pL pG pB pk bf hi sv ch hs inp ty er wy wd rf lt ln th tr mv fo sp wr td) (Qi_ G (fun (r : Int32) (_ : Unit) => r = th) (fun (_ : Unit) => (MW G mh md nr nc pL pG pB pk bf hi sv ch hs inp ty er wy wd rf lt ln th tr mv fo sp wr td))) := by
  refine MM.of (by decide) (Nat.le_of_ble_eq_true rfl) ?_
  intro p e s m args below meth cd A C hini hA hK hZ hP hD ls hl
  generalize hQ : MQ below ((Qi_ G (fun (r : Int32) (_ : Unit) => r = th) (fun (_ : Unit) => (MW G mh md nr nc pL pG pB pk bf hi sv ch hs inp ty er wy wd rf lt ln th tr mv fo sp wr td))) A) args s (⟨0, 0, 0, 0⟩ : Room).cells (⟨0, 0, 0, 0⟩ : Room).slots A = Q
  obtain ⟨hx, hb, hr, hts, hown, hlk, hml⟩ := C
  have hown : s.vm.findClass RX5 = some m.cls := hown
  have hS : va_S A s.heap s.heap [] := va_S.rf
  have hl : lv_has ls 1 [(0, .ref mh)] := hl
  refine lv_aload_n hx hb dX5_thrown_0 rfl (lv_at hl 0 rfl) ?_
  refine va_get (D := G.1) (ci := 4) (v := .int th) (C := RX5) (T := TX5) (N := 21) hx hb hts in_X5 hown hK hP 0 rfl rfl 14 (by decide) (hts _ q1741) (fun _ h9 => h9) rfl dX5_thrown_1 ?_
  subst hQ
  exact ret_i hx hb hr hlk () rfl hP hD hS rfl dX5_thrown_4
set_option maxHeartbeats 4000000 in
set_option maxRecDepth 100000 in
theorem m_X5_done (l : Launch) (G : GG) (mh : Nat) (md : Nat → Nat) (nr : Nat) (nc : Nat) (pL : Nat → Nat) (pG : Nat → Nat) (pB : Nat → Bool) (pk : Nat → Int32) (bf : Nat → Int32) (hi : Nat → Int32) (sv : Nat → Int32) (ch : Nat) (hs : Bool) (inp : Nat → Nat) (ty : Nat) (er : Int32) (wy : Int32) (wd : Int32) (rf : Bool) (lt : Nat → Nat) (ln : Nat) (th : Int32) (tr : Nat → Nat) (mv : Nat → Nat) (fo : Int32) (sp : Nat) (wr : Bool) (td : Nat → Int32) (dv : Int32)  : MM l G yX5_done cX5_done 2 (some .int) ⟨0, 0, 0, 0⟩ [.ref mh, .int dv] (MW G mh md nr nc pL pG pB pk bf hi sv ch hs inp ty er wy wd rf lt ln th tr mv fo sp wr td) (Qi_ G (fun (r : Int32) (_ : Unit) => r = dv) (fun (_ : Unit) => (MW G mh md nr nc pL pG pB pk bf hi sv ch hs inp ty er wy wd rf lt ln (nI 0) tr mv fo sp wr td))) := by
  refine MM.of (by decide) (Nat.le_of_ble_eq_true rfl) ?_
  intro p e s m args below meth cd A C hini hA hK hZ hP hD ls hl
  generalize hQ : MQ below ((Qi_ G (fun (r : Int32) (_ : Unit) => r = dv) (fun (_ : Unit) => (MW G mh md nr nc pL pG pB pk bf hi sv ch hs inp ty er wy wd rf lt ln (nI 0) tr mv fo sp wr td))) A) args s (⟨0, 0, 0, 0⟩ : Room).cells (⟨0, 0, 0, 0⟩ : Room).slots A = Q
  obtain ⟨hx, hb, hr, hts, hown, hlk, hml⟩ := C
  have hown : s.vm.findClass RX5 = some m.cls := hown
  have hS : va_S A s.heap s.heap [] := va_S.rf
  have hl : lv_has ls 2 [(0, .ref mh), (1, .int dv)] := hl
  refine lv_aload_n hx hb dX5_done_0 rfl (lv_at hl 0 rfl) ?_
  refine lv_iconst (v := nI 0) hx hb dX5_done_1 (by decide) ?_
  refine va_put (D := G.1) (ci := 4) (v := .int (nI 0)) (ty := .int) (C := RX5) (T := TX5) (N := 21) hx hb hts in_X5 tyX5 tyX5_ok nmX5 hown hK hP hD hS 0 rfl rfl 14 (by decide) (hts _ q1741) (fun _ h9 => h9) rfl (by decide +kernel) rfl rfl (Nat.le_of_ble_eq_true rfl) dX5_done_2 (fun H locs hP hD hS => ?_)
  have hP : va_P G.1 CL (MW G mh md nr nc pL pG pB pk bf hi sv ch hs inp ty er wy wd rf lt ln (nI 0) tr mv fo sp wr td) _ := hP
  have hD : va_D A (MW G mh md nr nc pL pG pB pk bf hi sv ch hs inp ty er wy wd rf lt ln (nI 0) tr mv fo sp wr td) := hD
  refine lv_iload_n hx hb dX5_done_5 rfl (lv_at hl 1 rfl) ?_
  subst hQ
  exact ret_i hx hb hr hlk () rfl hP hD hS rfl dX5_done_6
set_option maxHeartbeats 4000000 in
set_option maxRecDepth 100000 in
theorem m_X5_fails (l : Launch) (G : GG) (mh : Nat) (md : Nat → Nat) (nr : Nat) (nc : Nat) (pL : Nat → Nat) (pG : Nat → Nat) (pB : Nat → Bool) (pk : Nat → Int32) (bf : Nat → Int32) (hi : Nat → Int32) (sv : Nat → Int32) (ch : Nat) (hs : Bool) (inp : Nat → Nat) (ty : Nat) (er : Int32) (wy : Int32) (wd : Int32) (rf : Bool) (lt : Nat → Nat) (ln : Nat) (th : Int32) (tr : Nat → Nat) (mv : Nat → Nat) (fo : Int32) (sp : Nat) (wr : Bool) (td : Nat → Int32) (fn : Int32)  : MM l G yX5_fails cX5_fails 2 (some .int) ⟨0, 0, 0, 0⟩ [.ref mh, .int fn] (MW G mh md nr nc pL pG pB pk bf hi sv ch hs inp ty er wy wd rf lt ln th tr mv fo sp wr td) (Qi_ G (fun (r : Int32) (_ : Unit) => r = nI 0) (fun (_ : Unit) => (MW G mh md nr nc pL pG pB pk bf hi sv ch hs inp ty er wy wd false lt ln fn tr mv fo sp wr td))) := by
  refine MM.of (by decide) (Nat.le_of_ble_eq_true rfl) ?_
  intro p e s m args below meth cd A C hini hA hK hZ hP hD ls hl
  generalize hQ : MQ below ((Qi_ G (fun (r : Int32) (_ : Unit) => r = nI 0) (fun (_ : Unit) => (MW G mh md nr nc pL pG pB pk bf hi sv ch hs inp ty er wy wd false lt ln fn tr mv fo sp wr td))) A) args s (⟨0, 0, 0, 0⟩ : Room).cells (⟨0, 0, 0, 0⟩ : Room).slots A = Q
  obtain ⟨hx, hb, hr, hts, hown, hlk, hml⟩ := C
  have hown : s.vm.findClass RX5 = some m.cls := hown
  have hS : va_S A s.heap s.heap [] := va_S.rf
  have hl : lv_has ls 2 [(0, .ref mh), (1, .int fn)] := hl
  refine lv_aload_n hx hb dX5_fails_0 rfl (lv_at hl 0 rfl) ?_
  refine lv_iload_n hx hb dX5_fails_1 rfl (lv_at hl 1 rfl) ?_
  refine va_put (D := G.1) (ci := 4) (v := .int fn) (ty := .int) (C := RX5) (T := TX5) (N := 21) hx hb hts in_X5 tyX5 tyX5_ok nmX5 hown hK hP hD hS 0 rfl rfl 14 (by decide) (hts _ q1741) (fun _ h9 => h9) rfl (by decide +kernel) rfl rfl (Nat.le_of_ble_eq_true rfl) dX5_fails_2 (fun H locs hP hD hS => ?_)
  have hP : va_P G.1 CL (MW G mh md nr nc pL pG pB pk bf hi sv ch hs inp ty er wy wd rf lt ln fn tr mv fo sp wr td) _ := hP
  have hD : va_D A (MW G mh md nr nc pL pG pB pk bf hi sv ch hs inp ty er wy wd rf lt ln fn tr mv fo sp wr td) := hD
  refine lv_aload_n hx hb dX5_fails_5 rfl (lv_at hl 0 rfl) ?_
  refine lv_iconst (v := nI 0) hx hb dX5_fails_6 (by decide) ?_
  refine va_put (D := G.1) (ci := 4) (v := .int (bI false)) (ty := .boolean) (C := RX5) (T := TX5) (N := 21) hx hb hts in_X5 tyX5 tyX5_ok nmX5 hown hK hP hD hS 0 rfl rfl 11 (by decide) (hts _ q1738) (fun _ h9 => h9) rfl (by decide +kernel) (bI_nar _) rfl (Nat.le_of_ble_eq_true rfl) dX5_fails_7 (fun H locs hP hD hS => ?_)
  have hP : va_P G.1 CL (MW G mh md nr nc pL pG pB pk bf hi sv ch hs inp ty er wy wd false lt ln fn tr mv fo sp wr td) _ := hP
  have hD : va_D A (MW G mh md nr nc pL pG pB pk bf hi sv ch hs inp ty er wy wd false lt ln fn tr mv fo sp wr td) := hD
  refine lv_iconst (v := nI 0) hx hb dX5_fails_10 (by decide) ?_
  subst hQ
  exact ret_i hx hb hr hlk () rfl hP hD hS rfl dX5_fails_11
set_option maxHeartbeats 4000000 in
set_option maxRecDepth 100000 in
theorem m_X5_refused (l : Launch) (G : GG) (mh : Nat) (md : Nat → Nat) (nr : Nat) (nc : Nat) (pL : Nat → Nat) (pG : Nat → Nat) (pB : Nat → Bool) (pk : Nat → Int32) (bf : Nat → Int32) (hi : Nat → Int32) (sv : Nat → Int32) (ch : Nat) (hs : Bool) (inp : Nat → Nat) (ty : Nat) (er : Int32) (wy : Int32) (wd : Int32) (rf : Bool) (lt : Nat → Nat) (ln : Nat) (th : Int32) (tr : Nat → Nat) (mv : Nat → Nat) (fo : Int32) (sp : Nat) (wr : Bool) (td : Nat → Int32) (ra : Int32) (rb : Int32) (rn : Int32)  : MM l G yX5_refused cX5_refused 4 (some .int) ⟨0, 0, 0, 0⟩ [.ref mh, .int ra, .int rb, .int rn] (MW G mh md nr nc pL pG pB pk bf hi sv ch hs inp ty er wy wd rf lt ln th tr mv fo sp wr td) (Qi_ G (fun (r : Int32) (_ : Unit) => r = nI 0) (fun (_ : Unit) => (MW G mh md nr nc pL pG pB pk bf hi sv ch hs inp ty er ra rb true lt ln rn tr mv fo sp wr td))) := by
  refine MM.of (by decide) (Nat.le_of_ble_eq_true rfl) ?_
  intro p e s m args below meth cd A C hini hA hK hZ hP hD ls hl
  generalize hQ : MQ below ((Qi_ G (fun (r : Int32) (_ : Unit) => r = nI 0) (fun (_ : Unit) => (MW G mh md nr nc pL pG pB pk bf hi sv ch hs inp ty er ra rb true lt ln rn tr mv fo sp wr td))) A) args s (⟨0, 0, 0, 0⟩ : Room).cells (⟨0, 0, 0, 0⟩ : Room).slots A = Q
  obtain ⟨hx, hb, hr, hts, hown, hlk, hml⟩ := C
  have hown : s.vm.findClass RX5 = some m.cls := hown
  have hS : va_S A s.heap s.heap [] := va_S.rf
  have hl : lv_has ls 4 [(0, .ref mh), (1, .int ra), (2, .int rb), (3, .int rn)] := hl
  refine lv_aload_n hx hb dX5_refused_0 rfl (lv_at hl 0 rfl) ?_
  refine lv_iload_n hx hb dX5_refused_1 rfl (lv_at hl 1 rfl) ?_
  refine va_put (D := G.1) (ci := 4) (v := .int ra) (ty := .int) (C := RX5) (T := TX5) (N := 21) hx hb hts in_X5 tyX5 tyX5_ok nmX5 hown hK hP hD hS 0 rfl rfl 9 (by decide) (hts _ q1736) (fun _ h9 => h9) rfl (by decide +kernel) rfl rfl (Nat.le_of_ble_eq_true rfl) dX5_refused_2 (fun H locs hP hD hS => ?_)
  have hP : va_P G.1 CL (MW G mh md nr nc pL pG pB pk bf hi sv ch hs inp ty er ra wd rf lt ln th tr mv fo sp wr td) _ := hP
  have hD : va_D A (MW G mh md nr nc pL pG pB pk bf hi sv ch hs inp ty er ra wd rf lt ln th tr mv fo sp wr td) := hD
  refine lv_aload_n hx hb dX5_refused_5 rfl (lv_at hl 0 rfl) ?_
  refine lv_iload_n hx hb dX5_refused_6 rfl (lv_at hl 2 rfl) ?_
  refine va_put (D := G.1) (ci := 4) (v := .int rb) (ty := .int) (C := RX5) (T := TX5) (N := 21) hx hb hts in_X5 tyX5 tyX5_ok nmX5 hown hK hP hD hS 0 rfl rfl 10 (by decide) (hts _ q1737) (fun _ h9 => h9) rfl (by decide +kernel) rfl rfl (Nat.le_of_ble_eq_true rfl) dX5_refused_7 (fun H locs hP hD hS => ?_)
  have hP : va_P G.1 CL (MW G mh md nr nc pL pG pB pk bf hi sv ch hs inp ty er ra rb rf lt ln th tr mv fo sp wr td) _ := hP
  have hD : va_D A (MW G mh md nr nc pL pG pB pk bf hi sv ch hs inp ty er ra rb rf lt ln th tr mv fo sp wr td) := hD
  refine lv_aload_n hx hb dX5_refused_10 rfl (lv_at hl 0 rfl) ?_
  refine lv_iload_n hx hb dX5_refused_11 rfl (lv_at hl 3 rfl) ?_
  refine va_put (D := G.1) (ci := 4) (v := .int rn) (ty := .int) (C := RX5) (T := TX5) (N := 21) hx hb hts in_X5 tyX5 tyX5_ok nmX5 hown hK hP hD hS 0 rfl rfl 14 (by decide) (hts _ q1741) (fun _ h9 => h9) rfl (by decide +kernel) rfl rfl (Nat.le_of_ble_eq_true rfl) dX5_refused_12 (fun H locs hP hD hS => ?_)
  have hP : va_P G.1 CL (MW G mh md nr nc pL pG pB pk bf hi sv ch hs inp ty er ra rb rf lt ln rn tr mv fo sp wr td) _ := hP
  have hD : va_D A (MW G mh md nr nc pL pG pB pk bf hi sv ch hs inp ty er ra rb rf lt ln rn tr mv fo sp wr td) := hD
  refine lv_aload_n hx hb dX5_refused_15 rfl (lv_at hl 0 rfl) ?_
  refine lv_iconst (v := nI 1) hx hb dX5_refused_16 (by decide) ?_
  refine va_put (D := G.1) (ci := 4) (v := .int (bI true)) (ty := .boolean) (C := RX5) (T := TX5) (N := 21) hx hb hts in_X5 tyX5 tyX5_ok nmX5 hown hK hP hD hS 0 rfl rfl 11 (by decide) (hts _ q1738) (fun _ h9 => h9) rfl (by decide +kernel) (bI_nar _) rfl (Nat.le_of_ble_eq_true rfl) dX5_refused_17 (fun H locs hP hD hS => ?_)
  have hP : va_P G.1 CL (MW G mh md nr nc pL pG pB pk bf hi sv ch hs inp ty er ra rb true lt ln rn tr mv fo sp wr td) _ := hP
  have hD : va_D A (MW G mh md nr nc pL pG pB pk bf hi sv ch hs inp ty er ra rb true lt ln rn tr mv fo sp wr td) := hD
  refine lv_iconst (v := nI 0) hx hb dX5_refused_20 (by decide) ?_
  subst hQ
  exact ret_i hx hb hr hlk () rfl hP hD hS rfl dX5_refused_21
set_option maxHeartbeats 4000000 in
set_option maxRecDepth 100000 in
theorem m_X5_places (l : Launch) (G : GG) (mh : Nat) (md : Nat → Nat) (nr : Nat) (nc : Nat) (pL : Nat → Nat) (pG : Nat → Nat) (pB : Nat → Bool) (pk : Nat → Int32) (bf : Nat → Int32) (hi : Nat → Int32) (sv : Nat → Int32) (ch : Nat) (hs : Bool) (inp : Nat → Nat) (ty : Nat) (er : Int32) (wy : Int32) (wd : Int32) (rf : Bool) (lt : Nat → Nat) (ln : Nat) (th : Int32) (tr : Nat → Nat) (mv : Nat → Nat) (fo : Int32) (sp : Nat) (wr : Bool) (td : Nat → Int32)  : MM l G yX5_places cX5_places 1 (some .int) ⟨0, 0, 0, 0⟩ [.ref mh] (MW G mh md nr nc pL pG pB pk bf hi sv ch hs inp ty er wy wd rf lt ln th tr mv fo sp wr td) (Qi_ G (fun (r : Int32) (_ : Unit) => r = nI (nr * nc)) (fun (_ : Unit) => (MW G mh md nr nc pL pG pB pk bf hi sv ch hs inp ty er wy wd rf lt ln th tr mv fo sp wr td))) := by
  refine MM.of (by decide) (Nat.le_of_ble_eq_true rfl) ?_
  intro p e s m args below meth cd A C hini hA hK hZ hP hD ls hl
  generalize hQ : MQ below ((Qi_ G (fun (r : Int32) (_ : Unit) => r = nI (nr * nc)) (fun (_ : Unit) => (MW G mh md nr nc pL pG pB pk bf hi sv ch hs inp ty er wy wd rf lt ln th tr mv fo sp wr td))) A) args s (⟨0, 0, 0, 0⟩ : Room).cells (⟨0, 0, 0, 0⟩ : Room).slots A = Q
  obtain ⟨hx, hb, hr, hts, hown, hlk, hml⟩ := C
  have hown : s.vm.findClass RX5 = some m.cls := hown
  have hS : va_S A s.heap s.heap [] := va_S.rf
  have hl : lv_has ls 1 [(0, .ref mh)] := hl
  refine lv_aload_n hx hb dX5_places_0 rfl (lv_at hl 0 rfl) ?_
  refine va_get (D := G.1) (ci := 4) (v := .ref (md 0)) (C := RX5) (T := TX5) (N := 21) hx hb hts in_X5 hown hK hP 0 rfl rfl 0 (by decide) (hts _ q1727) (fun _ h9 => h9) rfl dX5_places_1 ?_
  refine lv_iconst (v := nI 0) hx hb dX5_places_4 (by decide) ?_
  refine r_iald hx hb hK hP 1 3 rfl rfl (by decide) (by decide) dX5_places_5 ?_
  refine eq_i (y := nI nr) rfl ?_
  refine lv_aload_n hx hb dX5_places_6 rfl (lv_at hl 0 rfl) ?_
  refine va_get (D := G.1) (ci := 4) (v := .ref (md 0)) (C := RX5) (T := TX5) (N := 21) hx hb hts in_X5 hown hK hP 0 rfl rfl 0 (by decide) (hts _ q1727) (fun _ h9 => h9) rfl dX5_places_7 ?_
  refine lv_iconst (v := nI 1) hx hb dX5_places_10 (by decide) ?_
  refine r_iald hx hb hK hP 1 3 rfl rfl (by decide) (by decide) dX5_places_11 ?_
  refine eq_i (y := nI nc) rfl ?_
  refine n_imul hx hb dX5_places_12 ?_
  subst hQ
  exact ret_i hx hb hr hlk () rfl hP hD hS rfl dX5_places_13
set_option maxHeartbeats 4000000 in
set_option maxRecDepth 100000 in
theorem m_X5_lines (l : Launch) (G : GG) (mh : Nat) (md : Nat → Nat) (nr : Nat) (nc : Nat) (pL : Nat → Nat) (pG : Nat → Nat) (pB : Nat → Bool) (pk : Nat → Int32) (bf : Nat → Int32) (hi : Nat → Int32) (sv : Nat → Int32) (ch : Nat) (hs : Bool) (inp : Nat → Nat) (ty : Nat) (er : Int32) (wy : Int32) (wd : Int32) (rf : Bool) (lt : Nat → Nat) (ln : Nat) (th : Int32) (tr : Nat → Nat) (mv : Nat → Nat) (fo : Int32) (sp : Nat) (wr : Bool) (td : Nat → Int32)  : MM l G yX5_lines cX5_lines 1 (some .int) ⟨0, 0, 0, 0⟩ [.ref mh] (MW G mh md nr nc pL pG pB pk bf hi sv ch hs inp ty er wy wd rf lt ln th tr mv fo sp wr td) (Qi_ G (fun (r : Int32) (_ : Unit) => r = nI (nr + nc)) (fun (_ : Unit) => (MW G mh md nr nc pL pG pB pk bf hi sv ch hs inp ty er wy wd rf lt ln th tr mv fo sp wr td))) := by
  refine MM.of (by decide) (Nat.le_of_ble_eq_true rfl) ?_
  intro p e s m args below meth cd A C hini hA hK hZ hP hD ls hl
  generalize hQ : MQ below ((Qi_ G (fun (r : Int32) (_ : Unit) => r = nI (nr + nc)) (fun (_ : Unit) => (MW G mh md nr nc pL pG pB pk bf hi sv ch hs inp ty er wy wd rf lt ln th tr mv fo sp wr td))) A) args s (⟨0, 0, 0, 0⟩ : Room).cells (⟨0, 0, 0, 0⟩ : Room).slots A = Q
  obtain ⟨hx, hb, hr, hts, hown, hlk, hml⟩ := C
  have hown : s.vm.findClass RX5 = some m.cls := hown
  have hS : va_S A s.heap s.heap [] := va_S.rf
  have hl : lv_has ls 1 [(0, .ref mh)] := hl
  refine lv_aload_n hx hb dX5_lines_0 rfl (lv_at hl 0 rfl) ?_
  refine va_get (D := G.1) (ci := 4) (v := .ref (md 0)) (C := RX5) (T := TX5) (N := 21) hx hb hts in_X5 hown hK hP 0 rfl rfl 0 (by decide) (hts _ q1727) (fun _ h9 => h9) rfl dX5_lines_1 ?_
  refine lv_iconst (v := nI 0) hx hb dX5_lines_4 (by decide) ?_
  refine r_iald hx hb hK hP 1 3 rfl rfl (by decide) (by decide) dX5_lines_5 ?_
  refine eq_i (y := nI nr) rfl ?_
  refine lv_aload_n hx hb dX5_lines_6 rfl (lv_at hl 0 rfl) ?_
  refine va_get (D := G.1) (ci := 4) (v := .ref (md 0)) (C := RX5) (T := TX5) (N := 21) hx hb hts in_X5 hown hK hP 0 rfl rfl 0 (by decide) (hts _ q1727) (fun _ h9 => h9) rfl dX5_lines_7 ?_
  refine lv_iconst (v := nI 1) hx hb dX5_lines_10 (by decide) ?_
  refine r_iald hx hb hK hP 1 3 rfl rfl (by decide) (by decide) dX5_lines_11 ?_
  refine eq_i (y := nI nc) rfl ?_
  refine n_iadd hx hb dX5_lines_12 ?_
  subst hQ
  exact ret_i hx hb hr hlk () rfl hP hD hS rfl dX5_lines_13
set_option maxHeartbeats 4000000 in
set_option maxRecDepth 100000 in
theorem m_X5_isPlace (l : Launch) (G : GG) (mh : Nat) (md : Nat → Nat) (nr : Nat) (nc : Nat) (pL : Nat → Nat) (pG : Nat → Nat) (pB : Nat → Bool) (pk : Nat → Int32) (bf : Nat → Int32) (hi : Nat → Int32) (sv : Nat → Int32) (ch : Nat) (hs : Bool) (inp : Nat → Nat) (ty : Nat) (er : Int32) (wy : Int32) (wd : Int32) (rf : Bool) (lt : Nat → Nat) (ln : Nat) (th : Int32) (tr : Nat → Nat) (mv : Nat → Nat) (fo : Int32) (sp : Nat) (wr : Bool) (td : Nat → Int32) (px : Int32) (hd : 2 ≤ nr ∧ nr ≤ 3 ∧ 2 ≤ nc ∧ nc ≤ 3) : MM l G yX5_isPlace cX5_isPlace 2 (some .boolean) ⟨1, 0, 0, 22⟩ [.ref mh, .int px] (MW G mh md nr nc pL pG pB pk bf hi sv ch hs inp ty er wy wd rf lt ln th tr mv fo sp wr td) (Qi_ G (fun (r : Int32) (_ : Unit) => r = bI (isIx px (nr * nc))) (fun (_ : Unit) => (MW G mh md nr nc pL pG pB pk bf hi sv ch hs inp ty er wy wd rf lt ln th tr mv fo sp wr td))) := by
  refine MM.of (by decide) (Nat.le_of_ble_eq_true rfl) ?_
  intro p e s m args below meth cd A C hini hA hK hZ hP hD ls hl
  generalize hQ : MQ below ((Qi_ G (fun (r : Int32) (_ : Unit) => r = bI (isIx px (nr * nc))) (fun (_ : Unit) => (MW G mh md nr nc pL pG pB pk bf hi sv ch hs inp ty er wy wd rf lt ln th tr mv fo sp wr td))) A) args s (⟨1, 0, 0, 22⟩ : Room).cells (⟨1, 0, 0, 22⟩ : Room).slots A = Q
  obtain ⟨hx, hb, hr, hts, hown, hlk, hml⟩ := C
  have hown : s.vm.findClass RX5 = some m.cls := hown
  have hS : va_S A s.heap s.heap [] := va_S.rf
  have hl : lv_has ls 2 [(0, .ref mh), (1, .int px)] := hl
  have hmu := dm_mul hd
  refine lv_iload_n hx hb dX5_isPlace_0 rfl (lv_at hl 1 rfl) ?_
  refine lv_iconst (v := nI 0) hx hb dX5_isPlace_1 (by decide) ?_
  refine lv_aload_n hx hb dX5_isPlace_2 rfl (lv_at hl 0 rfl) ?_
  refine callVi (As := []) (rest := [.int (nI 0), .int px]) (wc := (MW G mh md nr nc pL pG pB pk bf hi sv ch hs inp ty er wy wd rf lt ln th tr mv fo sp wr td)) (wr := ([] : va_W)) ⟨hx, hb, hml, hown, hts⟩ (m_X5_places l G mh md nr nc pL pG pB pk bf hi sv ch hs inp ty er wy wd rf lt ln th tr mv fo sp wr td ) (cwV 0 hts (lw_V q1817 q1819 qs38 q105 q1820) rfl rfl rfl (by decide +kernel) ⟨Nat.le_of_ble_eq_true rfl, Nat.le_of_ble_eq_true rfl⟩) hK hZ hA hP hD hS [0, 1, 2, 3, 4, 5, 6, 7, 8, 9] [] rfl rfl (by decide) (by decide) (by decide) 0 4 rfl rfl rfl hl.1 (Nat.le_of_ble_eq_true rfl) ⟨Nat.le_of_ble_eq_true rfl, Nat.le_of_ble_eq_true rfl⟩ rfl dX5_isPlace_3 (fun r9 u9 H locs hw9 hP hD hS => ?_)
  subst hw9
  have hP : va_P G.1 CL (MW G mh md nr nc pL pG pB pk bf hi sv ch hs inp ty er wy wd rf lt ln th tr mv fo sp wr td) _ := hP
  have hD : va_D A (MW G mh md nr nc pL pG pB pk bf hi sv ch hs inp ty er wy wd rf lt ln th tr mv fo sp wr td) := hD
  refine lv_iconst (v := nI 1) hx hb dX5_isPlace_6 (by decide) ?_
  refine n_isub hx hb (by omega) dX5_isPlace_7 ?_
  refine callSi (As := [.int px, .int (nI 0), .int (nI ((nr * nc) - 1))]) (rest := []) (wc := ([] : va_W)) (wr := (MW G mh md nr nc pL pG pB pk bf hi sv ch hs inp ty er wy wd rf lt ln th tr mv fo sp wr td)) ⟨hx, hb, hml, hown, hts⟩ (m_X5_in l G px (nI 0) (nI ((nr * nc) - 1)) ) (va_cwS 3 hts (lw_S q1810 q1811 q105 q1812) rfl rfl rfl (by decide +kernel) ⟨Nat.le_of_ble_eq_true rfl, Nat.le_of_ble_eq_true rfl⟩) hK hZ hA hP hD hS [] [0, 1, 2, 3, 4, 5, 6, 7, 8, 9] rfl rfl (by decide) (by decide) (by decide) rfl hl.1 (Nat.le_of_ble_eq_true rfl) ⟨Nat.le_of_ble_eq_true rfl, Nat.le_of_ble_eq_true rfl⟩ rfl dX5_isPlace_8 (fun r9 u9 H locs hw9 hP hD hS => ?_)
  subst hw9
  have hP : va_P G.1 CL (MW G mh md nr nc pL pG pB pk bf hi sv ch hs inp ty er wy wd rf lt ln th tr mv fo sp wr td) _ := hP
  have hD : va_D A (MW G mh md nr nc pL pG pB pk bf hi sv ch hs inp ty er wy wd rf lt ln th tr mv fo sp wr td) := hD
  subst hQ
  exact ret_i hx hb hr hlk () (congrArg bI (in_ix (by omega) (by omega))) hP hD hS (bI_nar _) dX5_isPlace_11
set_option maxHeartbeats 4000000 in
set_option maxRecDepth 100000 in
theorem m_X5_isLine (l : Launch) (G : GG) (mh : Nat) (md : Nat → Nat) (nr : Nat) (nc : Nat) (pL : Nat → Nat) (pG : Nat → Nat) (pB : Nat → Bool) (pk : Nat → Int32) (bf : Nat → Int32) (hi : Nat → Int32) (sv : Nat → Int32) (ch : Nat) (hs : Bool) (inp : Nat → Nat) (ty : Nat) (er : Int32) (wy : Int32) (wd : Int32) (rf : Bool) (lt : Nat → Nat) (ln : Nat) (th : Int32) (tr : Nat → Nat) (mv : Nat → Nat) (fo : Int32) (sp : Nat) (wr : Bool) (td : Nat → Int32) (px : Int32) (hd : 2 ≤ nr ∧ nr ≤ 3 ∧ 2 ≤ nc ∧ nc ≤ 3) : MM l G yX5_isLine cX5_isLine 2 (some .boolean) ⟨1, 0, 0, 22⟩ [.ref mh, .int px] (MW G mh md nr nc pL pG pB pk bf hi sv ch hs inp ty er wy wd rf lt ln th tr mv fo sp wr td) (Qi_ G (fun (r : Int32) (_ : Unit) => r = bI (isIx px (nr + nc))) (fun (_ : Unit) => (MW G mh md nr nc pL pG pB pk bf hi sv ch hs inp ty er wy wd rf lt ln th tr mv fo sp wr td))) := by
  refine MM.of (by decide) (Nat.le_of_ble_eq_true rfl) ?_
  intro p e s m args below meth cd A C hini hA hK hZ hP hD ls hl
  generalize hQ : MQ below ((Qi_ G (fun (r : Int32) (_ : Unit) => r = bI (isIx px (nr + nc))) (fun (_ : Unit) => (MW G mh md nr nc pL pG pB pk bf hi sv ch hs inp ty er wy wd rf lt ln th tr mv fo sp wr td))) A) args s (⟨1, 0, 0, 22⟩ : Room).cells (⟨1, 0, 0, 22⟩ : Room).slots A = Q
  obtain ⟨hx, hb, hr, hts, hown, hlk, hml⟩ := C
  have hown : s.vm.findClass RX5 = some m.cls := hown
  have hS : va_S A s.heap s.heap [] := va_S.rf
  have hl : lv_has ls 2 [(0, .ref mh), (1, .int px)] := hl
  have hmu := dm_mul hd
  refine lv_iload_n hx hb dX5_isLine_0 rfl (lv_at hl 1 rfl) ?_
  refine lv_iconst (v := nI 0) hx hb dX5_isLine_1 (by decide) ?_
  refine lv_aload_n hx hb dX5_isLine_2 rfl (lv_at hl 0 rfl) ?_
  refine callVi (As := []) (rest := [.int (nI 0), .int px]) (wc := (MW G mh md nr nc pL pG pB pk bf hi sv ch hs inp ty er wy wd rf lt ln th tr mv fo sp wr td)) (wr := ([] : va_W)) ⟨hx, hb, hml, hown, hts⟩ (m_X5_lines l G mh md nr nc pL pG pB pk bf hi sv ch hs inp ty er wy wd rf lt ln th tr mv fo sp wr td ) (cwV 0 hts (lw_V q1875 q1877 qs48 q105 q1878) rfl rfl rfl (by decide +kernel) ⟨Nat.le_of_ble_eq_true rfl, Nat.le_of_ble_eq_true rfl⟩) hK hZ hA hP hD hS [0, 1, 2, 3, 4, 5, 6, 7, 8, 9] [] rfl rfl (by decide) (by decide) (by decide) 0 4 rfl rfl rfl hl.1 (Nat.le_of_ble_eq_true rfl) ⟨Nat.le_of_ble_eq_true rfl, Nat.le_of_ble_eq_true rfl⟩ rfl dX5_isLine_3 (fun r9 u9 H locs hw9 hP hD hS => ?_)
  subst hw9
  have hP : va_P G.1 CL (MW G mh md nr nc pL pG pB pk bf hi sv ch hs inp ty er wy wd rf lt ln th tr mv fo sp wr td) _ := hP
  have hD : va_D A (MW G mh md nr nc pL pG pB pk bf hi sv ch hs inp ty er wy wd rf lt ln th tr mv fo sp wr td) := hD
  refine lv_iconst (v := nI 1) hx hb dX5_isLine_6 (by decide) ?_
  refine n_isub hx hb (by omega) dX5_isLine_7 ?_
  refine callSi (As := [.int px, .int (nI 0), .int (nI ((nr + nc) - 1))]) (rest := []) (wc := ([] : va_W)) (wr := (MW G mh md nr nc pL pG pB pk bf hi sv ch hs inp ty er wy wd rf lt ln th tr mv fo sp wr td)) ⟨hx, hb, hml, hown, hts⟩ (m_X5_in l G px (nI 0) (nI ((nr + nc) - 1)) ) (va_cwS 3 hts (lw_S q1810 q1811 q105 q1812) rfl rfl rfl (by decide +kernel) ⟨Nat.le_of_ble_eq_true rfl, Nat.le_of_ble_eq_true rfl⟩) hK hZ hA hP hD hS [] [0, 1, 2, 3, 4, 5, 6, 7, 8, 9] rfl rfl (by decide) (by decide) (by decide) rfl hl.1 (Nat.le_of_ble_eq_true rfl) ⟨Nat.le_of_ble_eq_true rfl, Nat.le_of_ble_eq_true rfl⟩ rfl dX5_isLine_8 (fun r9 u9 H locs hw9 hP hD hS => ?_)
  subst hw9
  have hP : va_P G.1 CL (MW G mh md nr nc pL pG pB pk bf hi sv ch hs inp ty er wy wd rf lt ln th tr mv fo sp wr td) _ := hP
  have hD : va_D A (MW G mh md nr nc pL pG pB pk bf hi sv ch hs inp ty er wy wd rf lt ln th tr mv fo sp wr td) := hD
  subst hQ
  exact ret_i hx hb hr hlk () (congrArg bI (in_ix (by omega) (by omega))) hP hD hS (bI_nar _) dX5_isLine_11
set_option maxHeartbeats 4000000 in
set_option maxRecDepth 100000 in
theorem m_X5_isTurn (l : Launch) (G : GG) (mh : Nat) (md : Nat → Nat) (nr : Nat) (nc : Nat) (pL : Nat → Nat) (pG : Nat → Nat) (pB : Nat → Bool) (pk : Nat → Int32) (bf : Nat → Int32) (hi : Nat → Int32) (sv : Nat → Int32) (ch : Nat) (hs : Bool) (inp : Nat → Nat) (ty : Nat) (er : Int32) (wy : Int32) (wd : Int32) (rf : Bool) (lt : Nat → Nat) (ln : Nat) (th : Int32) (tr : Nat → Nat) (mv : Nat → Nat) (fo : Int32) (sp : Nat) (wr : Bool) (td : Nat → Int32) (px : Int32) (hd : 2 ≤ nr ∧ nr ≤ 3 ∧ 2 ≤ nc ∧ nc ≤ 3) : MM l G yX5_isTurn cX5_isTurn 2 (some .boolean) ⟨1, 0, 0, 22⟩ [.ref mh, .int px] (MW G mh md nr nc pL pG pB pk bf hi sv ch hs inp ty er wy wd rf lt ln th tr mv fo sp wr td) (Qi_ G (fun (r : Int32) (_ : Unit) => r = bI (isIx px (2 * (nr + nc)))) (fun (_ : Unit) => (MW G mh md nr nc pL pG pB pk bf hi sv ch hs inp ty er wy wd rf lt ln th tr mv fo sp wr td))) := by
  refine MM.of (by decide) (Nat.le_of_ble_eq_true rfl) ?_
  intro p e s m args below meth cd A C hini hA hK hZ hP hD ls hl
  generalize hQ : MQ below ((Qi_ G (fun (r : Int32) (_ : Unit) => r = bI (isIx px (2 * (nr + nc)))) (fun (_ : Unit) => (MW G mh md nr nc pL pG pB pk bf hi sv ch hs inp ty er wy wd rf lt ln th tr mv fo sp wr td))) A) args s (⟨1, 0, 0, 22⟩ : Room).cells (⟨1, 0, 0, 22⟩ : Room).slots A = Q
  obtain ⟨hx, hb, hr, hts, hown, hlk, hml⟩ := C
  have hown : s.vm.findClass RX5 = some m.cls := hown
  have hS : va_S A s.heap s.heap [] := va_S.rf
  have hl : lv_has ls 2 [(0, .ref mh), (1, .int px)] := hl
  have hmu := dm_mul hd
  refine lv_iload_n hx hb dX5_isTurn_0 rfl (lv_at hl 1 rfl) ?_
  refine lv_iconst (v := nI 0) hx hb dX5_isTurn_1 (by decide) ?_
  refine lv_iconst (v := nI 2) hx hb dX5_isTurn_2 (by decide) ?_
  refine lv_aload_n hx hb dX5_isTurn_3 rfl (lv_at hl 0 rfl) ?_
  refine callVi (As := []) (rest := [.int (nI 2), .int (nI 0), .int px]) (wc := (MW G mh md nr nc pL pG pB pk bf hi sv ch hs inp ty er wy wd rf lt ln th tr mv fo sp wr td)) (wr := ([] : va_W)) ⟨hx, hb, hml, hown, hts⟩ (m_X5_lines l G mh md nr nc pL pG pB pk bf hi sv ch hs inp ty er wy wd rf lt ln th tr mv fo sp wr td ) (cwV 0 hts (lw_V q1875 q1877 qs48 q105 q1878) rfl rfl rfl (by decide +kernel) ⟨Nat.le_of_ble_eq_true rfl, Nat.le_of_ble_eq_true rfl⟩) hK hZ hA hP hD hS [0, 1, 2, 3, 4, 5, 6, 7, 8, 9] [] rfl rfl (by decide) (by decide) (by decide) 0 4 rfl rfl rfl hl.1 (Nat.le_of_ble_eq_true rfl) ⟨Nat.le_of_ble_eq_true rfl, Nat.le_of_ble_eq_true rfl⟩ rfl dX5_isTurn_4 (fun r9 u9 H locs hw9 hP hD hS => ?_)
  subst hw9
  have hP : va_P G.1 CL (MW G mh md nr nc pL pG pB pk bf hi sv ch hs inp ty er wy wd rf lt ln th tr mv fo sp wr td) _ := hP
  have hD : va_D A (MW G mh md nr nc pL pG pB pk bf hi sv ch hs inp ty er wy wd rf lt ln th tr mv fo sp wr td) := hD
  refine n_imul hx hb dX5_isTurn_7 ?_
  refine lv_iconst (v := nI 1) hx hb dX5_isTurn_8 (by decide) ?_
  refine n_isub hx hb (by omega) dX5_isTurn_9 ?_
  refine callSi (As := [.int px, .int (nI 0), .int (nI ((2 * (nr + nc)) - 1))]) (rest := []) (wc := ([] : va_W)) (wr := (MW G mh md nr nc pL pG pB pk bf hi sv ch hs inp ty er wy wd rf lt ln th tr mv fo sp wr td)) ⟨hx, hb, hml, hown, hts⟩ (m_X5_in l G px (nI 0) (nI ((2 * (nr + nc)) - 1)) ) (va_cwS 3 hts (lw_S q1810 q1811 q105 q1812) rfl rfl rfl (by decide +kernel) ⟨Nat.le_of_ble_eq_true rfl, Nat.le_of_ble_eq_true rfl⟩) hK hZ hA hP hD hS [] [0, 1, 2, 3, 4, 5, 6, 7, 8, 9] rfl rfl (by decide) (by decide) (by decide) rfl hl.1 (Nat.le_of_ble_eq_true rfl) ⟨Nat.le_of_ble_eq_true rfl, Nat.le_of_ble_eq_true rfl⟩ rfl dX5_isTurn_10 (fun r9 u9 H locs hw9 hP hD hS => ?_)
  subst hw9
  have hP : va_P G.1 CL (MW G mh md nr nc pL pG pB pk bf hi sv ch hs inp ty er wy wd rf lt ln th tr mv fo sp wr td) _ := hP
  have hD : va_D A (MW G mh md nr nc pL pG pB pk bf hi sv ch hs inp ty er wy wd rf lt ln th tr mv fo sp wr td) := hD
  subst hQ
  exact ret_i hx hb hr hlk () (congrArg bI (in_ix (by omega) (by omega))) hP hD hS (bI_nar _) dX5_isTurn_13
set_option maxHeartbeats 4000000 in
set_option maxRecDepth 100000 in
theorem m_X5_isLetter (l : Launch) (G : GG) (lc : Int32)  : MM l G yX5_isLetter cX5_isLetter 1 (some .boolean) ⟨1, 0, 0, 22⟩ [.int lc] ([] : va_W) (Qi_ G (fun (r : Int32) (_ : Unit) => r = bI (decide (nI 97 ≤ lc ∧ lc ≤ nI 108))) (fun (_ : Unit) => ([] : va_W))) := by
  refine MM.of (by decide) (Nat.le_of_ble_eq_true rfl) ?_
  intro p e s m args below meth cd A C hini hA hK hZ hP hD ls hl
  generalize hQ : MQ below ((Qi_ G (fun (r : Int32) (_ : Unit) => r = bI (decide (nI 97 ≤ lc ∧ lc ≤ nI 108))) (fun (_ : Unit) => ([] : va_W))) A) args s (⟨1, 0, 0, 22⟩ : Room).cells (⟨1, 0, 0, 22⟩ : Room).slots A = Q
  obtain ⟨hx, hb, hr, hts, hown, hlk, hml⟩ := C
  have hown : s.vm.findClass RX5 = some m.cls := hown
  have hS : va_S A s.heap s.heap [] := va_S.rf
  have hl : lv_has ls 1 [(0, .int lc)] := hl
  refine lv_iload_n hx hb dX5_isLetter_0 rfl (lv_at hl 0 rfl) ?_
  refine lv_bipush (v := nI 97) hx hb dX5_isLetter_1 (by decide) ?_
  refine lv_bipush (v := nI 108) hx hb dX5_isLetter_3 (by decide) ?_
  refine callSi (As := [.int lc, .int (nI 97), .int (nI 108)]) (rest := []) (wc := ([] : va_W)) (wr := ([] : va_W)) ⟨hx, hb, hml, hown, hts⟩ (m_X5_in l G lc (nI 97) (nI 108) ) (va_cwS 3 hts (lw_S q1810 q1811 q105 q1812) rfl rfl rfl (by decide +kernel) ⟨Nat.le_of_ble_eq_true rfl, Nat.le_of_ble_eq_true rfl⟩) hK hZ hA hP hD hS [] [] rfl rfl (by decide) (by decide) (by decide) rfl hl.1 (Nat.le_of_ble_eq_true rfl) ⟨Nat.le_of_ble_eq_true rfl, Nat.le_of_ble_eq_true rfl⟩ rfl dX5_isLetter_5 (fun r9 u9 H locs hw9 hP hD hS => ?_)
  subst hw9
  have hP : va_P G.1 CL ([] : va_W) _ := hP
  have hD : va_D A ([] : va_W) := hD
  subst hQ
  exact ret_i hx hb hr hlk () rfl hP hD hS (bI_nar _) dX5_isLetter_8
set_option maxHeartbeats 4000000 in
set_option maxRecDepth 100000 in
theorem m_X5_signOf (l : Launch) (G : GG) (gv : Int32) (w : Nat) (hw : gk w = gv) (hw2 : w = 46 ∨ (97 ≤ w ∧ w ≤ 108)) : MM l G yX5_signOf cX5_signOf 1 (some .char) ⟨0, 0, 0, 0⟩ [.int gv] ([] : va_W) (Qi_ G (fun (r : Int32) (_ : Unit) => r = nI w) (fun (_ : Unit) => ([] : va_W))) := by
  refine MM.of (by decide) (Nat.le_of_ble_eq_true rfl) ?_
  intro p e s m args below meth cd A C hini hA hK hZ hP hD ls hl
  generalize hQ : MQ below ((Qi_ G (fun (r : Int32) (_ : Unit) => r = nI w) (fun (_ : Unit) => ([] : va_W))) A) args s (⟨0, 0, 0, 0⟩ : Room).cells (⟨0, 0, 0, 0⟩ : Room).slots A = Q
  obtain ⟨hx, hb, hr, hts, hown, hlk, hml⟩ := C
  have hown : s.vm.findClass RX5 = some m.cls := hown
  have hS : va_S A s.heap s.heap [] := va_S.rf
  have hl : lv_has ls 1 [(0, .int gv)] := hl
  refine lv_iload_n hx hb dX5_signOf_0 rfl (lv_at hl 0 rfl) ?_
  refine lv_iconst (v := (-1)) hx hb dX5_signOf_1 (by decide) ?_
  refine lv_icmp_ne (tgt := 10) hx hb dX5_signOf_2 (by decide) (fun c2 => ?_) (fun c2 => ?_)
  · skip
    refine lv_bipush (v := nI 97) hx hb dX5_signOf_10 (by decide) ?_
    refine lv_iload_n hx hb dX5_signOf_12 rfl (lv_at hl 0 rfl) ?_
    have h46 : ¬ w = 46 := fun z => c2 (by rw [← hw, z]; rfl)
    refine eq_i (y := nI (w - 97)) (by rw [← hw, gk, if_neg h46]) ?_
    refine n_iadd hx hb dX5_signOf_13 ?_
    refine n_i2c hx hb (by omega) dX5_signOf_14 ?_
    have hwm : nI 0 = nI 0 := rfl
    subst hQ
    exact ret_i hx hb hr hlk () (congrArg nI (by omega)) hP hD hS (pk_charN (by omega)).1 dX5_signOf_15
  · skip
    refine lv_bipush (v := nI 46) hx hb dX5_signOf_5 (by decide) ?_
    refine lv_goto (tgt := 15) hx hb dX5_signOf_7 (by decide) ?_
    have hwm : nI 0 = nI 0 := rfl
    subst hQ
    exact ret_i hx hb hr hlk () (congrArg nI (show 46 = w from by rcases hw2 with h | h <;> first | exact h.symm | (exfalso; have h9 := c2; rw [← hw, gk, if_neg (by omega)] at h9; exact nI_ne1 (by omega) h9))) hP hD hS (pk_charN (by omega)).1 dX5_signOf_15
set_option maxHeartbeats 4000000 in
set_option maxRecDepth 100000 in
theorem m_X5_isVowel (l : Launch) (G : GG) (vc : Nat) (hvc : vc < 12) : MM l G yX5_isVowel cX5_isVowel 1 (some .boolean) ⟨0, 0, 0, 0⟩ [.int (nI vc)] ([] : va_W) (Qi_ G (fun (r : Int32) (_ : Unit) => r = bI (vw (97 + vc))) (fun (_ : Unit) => ([] : va_W))) := by
  refine MM.of (by decide) (Nat.le_of_ble_eq_true rfl) ?_
  intro p e s m args below meth cd A C hini hA hK hZ hP hD ls hl
  generalize hQ : MQ below ((Qi_ G (fun (r : Int32) (_ : Unit) => r = bI (vw (97 + vc))) (fun (_ : Unit) => ([] : va_W))) A) args s (⟨0, 0, 0, 0⟩ : Room).cells (⟨0, 0, 0, 0⟩ : Room).slots A = Q
  obtain ⟨hx, hb, hr, hts, hown, hlk, hml⟩ := C
  have hown : s.vm.findClass RX5 = some m.cls := hown
  have hS : va_S A s.heap s.heap [] := va_S.rf
  have hl : lv_has ls 1 [(0, .int (nI vc))] := hl
  refine lv_iload_n hx hb dX5_isVowel_0 rfl (lv_at hl 0 rfl) ?_
  refine n_if_eq (tgt := 15) hx hb dX5_isVowel_1 (by decide) (by omega) (fun c1 => ?_) (fun c1 => ?_)
  · skip
    refine lv_iconst (v := nI 1) hx hb dX5_isVowel_15 (by decide) ?_
    refine lv_goto (tgt := 20) hx hb dX5_isVowel_16 (by decide) ?_
    subst hQ
    exact ret_i hx hb hr hlk () (bI_d1 (by omega)) hP hD hS rfl dX5_isVowel_20
  · skip
    refine lv_iload_n hx hb dX5_isVowel_4 rfl (lv_at hl 0 rfl) ?_
    refine lv_iconst (v := nI 4) hx hb dX5_isVowel_5 (by decide) ?_
    refine n_cmp_eq (tgt := 15) hx hb dX5_isVowel_6 (by decide) (by omega) (by omega) (fun c6 => ?_) (fun c6 => ?_)
    · skip
      refine lv_iconst (v := nI 1) hx hb dX5_isVowel_15 (by decide) ?_
      refine lv_goto (tgt := 20) hx hb dX5_isVowel_16 (by decide) ?_
      subst hQ
      exact ret_i hx hb hr hlk () (bI_d1 (by omega)) hP hD hS rfl dX5_isVowel_20
    · skip
      refine lv_iload_n hx hb dX5_isVowel_9 rfl (lv_at hl 0 rfl) ?_
      refine lv_bipush (v := nI 8) hx hb dX5_isVowel_10 (by decide) ?_
      refine n_cmp_ne (tgt := 19) hx hb dX5_isVowel_12 (by decide) (by omega) (by omega) (fun c12 => ?_) (fun c12 => ?_)
      · skip
        refine lv_iconst (v := nI 0) hx hb dX5_isVowel_19 (by decide) ?_
        subst hQ
        exact ret_i hx hb hr hlk () (bI_d0 (by omega)) hP hD hS rfl dX5_isVowel_20
      · skip
        refine lv_iconst (v := nI 1) hx hb dX5_isVowel_15 (by decide) ?_
        refine lv_goto (tgt := 20) hx hb dX5_isVowel_16 (by decide) ?_
        subst hQ
        exact ret_i hx hb hr hlk () (bI_d1 (by omega)) hP hD hS rfl dX5_isVowel_20
set_option maxHeartbeats 4000000 in
set_option maxRecDepth 100000 in
theorem m_X5_isOpen (l : Launch) (G : GG) (mh : Nat) (md : Nat → Nat) (nr : Nat) (nc : Nat) (pL : Nat → Nat) (pG : Nat → Nat) (pB : Nat → Bool) (pk : Nat → Int32) (bf : Nat → Int32) (hi : Nat → Int32) (sv : Nat → Int32) (ch : Nat) (hs : Bool) (inp : Nat → Nat) (ty : Nat) (er : Int32) (wy : Int32) (wd : Int32) (rf : Bool) (lt : Nat → Nat) (ln : Nat) (th : Int32) (tr : Nat → Nat) (mv : Nat → Nat) (fo : Int32) (sp : Nat) (wr : Bool) (td : Nat → Int32) (tt : Nat) (ht0 : tt < 12) : MM l G yX5_isOpen cX5_isOpen 2 (some .boolean) ⟨0, 0, 0, 0⟩ [.ref mh, .int (nI tt)] (MW G mh md nr nc pL pG pB pk bf hi sv ch hs inp ty er wy wd rf lt ln th tr mv fo sp wr td) (Qi_ G (fun (r : Int32) (_ : Unit) => r = bI (!pB (tt / 2))) (fun (_ : Unit) => (MW G mh md nr nc pL pG pB pk bf hi sv ch hs inp ty er wy wd rf lt ln th tr mv fo sp wr td))) := by
  refine MM.of (by decide) (Nat.le_of_ble_eq_true rfl) ?_
  intro p e s m args below meth cd A C hini hA hK hZ hP hD ls hl
  generalize hQ : MQ below ((Qi_ G (fun (r : Int32) (_ : Unit) => r = bI (!pB (tt / 2))) (fun (_ : Unit) => (MW G mh md nr nc pL pG pB pk bf hi sv ch hs inp ty er wy wd rf lt ln th tr mv fo sp wr td))) A) args s (⟨0, 0, 0, 0⟩ : Room).cells (⟨0, 0, 0, 0⟩ : Room).slots A = Q
  obtain ⟨hx, hb, hr, hts, hown, hlk, hml⟩ := C
  have hown : s.vm.findClass RX5 = some m.cls := hown
  have hS : va_S A s.heap s.heap [] := va_S.rf
  have hl : lv_has ls 2 [(0, .ref mh), (1, .int (nI tt))] := hl
  refine lv_aload_n hx hb dX5_isOpen_0 rfl (lv_at hl 0 rfl) ?_
  refine va_get (D := G.1) (ci := 4) (v := .ref (md 0)) (C := RX5) (T := TX5) (N := 21) hx hb hts in_X5 hown hK hP 0 rfl rfl 0 (by decide) (hts _ q1727) (fun _ h9 => h9) rfl dX5_isOpen_1 ?_
  refine lv_bipush (v := nI 8) hx hb dX5_isOpen_4 (by decide) ?_
  refine lv_iload_n hx hb dX5_isOpen_6 rfl (lv_at hl 1 rfl) ?_
  refine lv_iconst (v := nI 2) hx hb dX5_isOpen_7 (by decide) ?_
  refine n_idiv hx hb (by omega) (by omega) (by omega) dX5_isOpen_8 ?_
  refine n_iadd hx hb dX5_isOpen_9 ?_
  refine r_iald hx hb hK hP 1 3 rfl rfl (by omega) (by decide) dX5_isOpen_10 ?_
  refine eq_i (y := bI (pB (tt / 2))) (gZ_b (by omega)) ?_
  refine b_if_ne (tgt := 18) hx hb dX5_isOpen_11 (by decide) (fun c11 => ?_) (fun c11 => ?_)
  · skip
    refine lv_iconst (v := nI 0) hx hb dX5_isOpen_18 (by decide) ?_
    subst hQ
    exact ret_i hx hb hr hlk () (bI_0 (by rw [c11]; rfl)) hP hD hS rfl dX5_isOpen_19
  · skip
    refine lv_iconst (v := nI 1) hx hb dX5_isOpen_14 (by decide) ?_
    refine lv_goto (tgt := 19) hx hb dX5_isOpen_15 (by decide) ?_
    subst hQ
    exact ret_i hx hb hr hlk () (bI_1 (by rw [c11]; rfl)) hP hD hS rfl dX5_isOpen_19
set_option maxHeartbeats 4000000 in
set_option maxRecDepth 100000 in
theorem m_X5_copy__gb (l : Launch) (G : GG) (mh : Nat) (md : Nat → Nat) (gr : Nat → Int32) (bf : Nat → Int32) (hi : Nat → Int32) (sv : Nat → Int32) (ch : Nat) (hs : Bool) (inp : Nat → Nat) (ty : Nat) (er : Int32) (wy : Int32) (wd : Int32) (rf : Bool) (lt : Nat → Nat) (ln : Nat) (th : Int32) (tr : Nat → Nat) (mv : Nat → Nat) (fo : Int32) (sp : Nat) (wr : Bool) (td : Nat → Int32)  : MM l G yX5_copy cX5_copy 5 none ⟨0, 0, 0, 0⟩ [.ref (md 0), .int (nI 0), .ref (md 1), .int (nI 0)] (MRW G mh md gr bf hi sv ch hs inp ty er wy wd rf lt ln th tr mv fo sp wr td) (Qv_ G (fun (_ : Unit) => True) (fun (_ : Unit) => (MRW G mh md gr (va_cpy gr bf 0 0 32) hi sv ch hs inp ty er wy wd rf lt ln th tr mv fo sp wr td))) := by
  refine MM.of (by decide) (Nat.le_of_ble_eq_true rfl) ?_
  intro p e s m args below meth cd A C hini hA hK hZ hP hD ls hl
  generalize hQ : MQ below ((Qv_ G (fun (_ : Unit) => True) (fun (_ : Unit) => (MRW G mh md gr (va_cpy gr bf 0 0 32) hi sv ch hs inp ty er wy wd rf lt ln th tr mv fo sp wr td))) A) args s (⟨0, 0, 0, 0⟩ : Room).cells (⟨0, 0, 0, 0⟩ : Room).slots A = Q
  obtain ⟨hx, hb, hr, hts, hown, hlk, hml⟩ := C
  have hown : s.vm.findClass RX5 = some m.cls := hown
  have hS : va_S A s.heap s.heap [] := va_S.rf
  have hl : lv_has ls 5 [(0, .ref (md 0)), (1, .int (nI 0)), (2, .ref (md 1)), (3, .int (nI 0))] := hl
  refine lv_iconst (v := nI 0) hx hb dX5_copy_0 (by decide) ?_
  refine lv_istore (lv' := [(4, .int (nI 0)), (0, .ref (md 0)), (1, .int (nI 0)), (2, .ref (md 1)), (3, .int (nI 0))]) hx hb dX5_copy_1 hl (by decide) rfl (fun ls hl => ?_)
  have lp3 : ∀ (f : Nat) (i : Nat) (Mx : Nat → Int32), 32 - i < f → (i ≤ 32) → (Mx = va_cpy gr bf 0 0 i) → ∀ (H : Heap) (locs : List Loc) (ls : Array Slot), va_P G.1 CL (MRW G mh md gr Mx hi sv ch hs inp ty er wy wd rf lt ln th tr mv fo sp wr td) H → va_D A (MRW G mh md gr Mx hi sv ch hs inp ty er wy wd rf lt ln th tr mv fo sp wr td) → va_S A s.heap H locs → lv_has ls 5 [(4, .int (nI i)), (0, .ref (md 0)), (1, .int (nI 0)), (2, .ref (md 1)), (3, .int (nI 0))] → W p l e (⟨0, 0, 0, 0⟩ : Room) s m args below meth cd H locs 0 0 Q (F0 m 3 ls []) := by
    intro f
    induction f with
    | zero => intro i Mx hf; exact absurd hf (Nat.not_lt_zero _)
    | succ f ih3 =>
      intro i Mx hf hi9 hM H locs ls hP hD hS hl
      refine lv_iload hx hb dX5_copy_3 (lv_at hl 0 rfl) ?_
      refine lv_bipush (v := nI 32) hx hb dX5_copy_5 (by decide) ?_
      refine n_cmp_ge (tgt := 28) hx hb dX5_copy_7 (by decide) (by omega) (by omega) (fun c7 => ?_) (fun c7 => ?_)
      · skip
        have e_bf : Mx = (va_cpy gr bf 0 0 32) := (by rw [hM, show i = 32 by omega])
        rw [e_bf] at hP hD
        subst hQ
        exact ret_v hx hb hr hlk () trivial hP hD hS dX5_copy_28
      · skip
        refine lv_aload_n hx hb dX5_copy_10 rfl (lv_at hl 3 rfl) ?_
        refine lv_iload_n hx hb dX5_copy_11 rfl (lv_at hl 4 rfl) ?_
        refine lv_iload hx hb dX5_copy_12 (lv_at hl 0 rfl) ?_
        refine n_iadd hx hb dX5_copy_14 ?_
        refine lv_aload_n hx hb dX5_copy_15 rfl (lv_at hl 1 rfl) ?_
        refine lv_iload_n hx hb dX5_copy_16 rfl (lv_at hl 2 rfl) ?_
        refine lv_iload hx hb dX5_copy_17 (lv_at hl 0 rfl) ?_
        refine n_iadd hx hb dX5_copy_19 ?_
        refine r_iald hx hb hK hP 1 3 rfl rfl (by omega) (by decide) dX5_copy_20 ?_
        refine r_iast hx hb hK hP hD hS 2 3 rfl rfl (by omega) (by decide) dX5_copy_21 (fun H locs hP hD hS => ?_)
        have hP : va_P G.1 CL (MRW G mh md gr (va_up Mx (0 + i) (gr (0 + i))) hi sv ch hs inp ty er wy wd rf lt ln th tr mv fo sp wr td) _ := hP
        have hD : va_D A (MRW G mh md gr (va_up Mx (0 + i) (gr (0 + i))) hi sv ch hs inp ty er wy wd rf lt ln th tr mv fo sp wr td) := hD
        refine lv_iinc (v := nI (i + 1)) (lv' := [(4, .int (nI (i + 1))), (0, .ref (md 0)), (1, .int (nI 0)), (2, .ref (md 1)), (3, .int (nI 0))]) hx hb dX5_copy_22 hl (k := 0) rfl (nI_add _ _) (by decide) rfl (fun ls hl => ?_)
        refine lv_goto (tgt := 3) hx hb dX5_copy_25 (by decide) ?_
        exact ih3 (i + 1) (va_up Mx (0 + i) (gr (0 + i))) (by omega) (by omega) (by rw [hM]; exact cpy_s) _ _ _ hP hD hS (lv_sub hl [0, 1, 2, 3, 4] rfl)
  exact lp3 _ 0 bf (Nat.lt_succ_self _) (by omega) cpy_0 _ _ _ hP hD hS (lv_sub hl [0, 1, 2, 3, 4] rfl)
set_option maxHeartbeats 4000000 in
set_option maxRecDepth 100000 in
theorem m_X5_copy__bg (l : Launch) (G : GG) (mh : Nat) (md : Nat → Nat) (gr : Nat → Int32) (bf : Nat → Int32) (hi : Nat → Int32) (sv : Nat → Int32) (ch : Nat) (hs : Bool) (inp : Nat → Nat) (ty : Nat) (er : Int32) (wy : Int32) (wd : Int32) (rf : Bool) (lt : Nat → Nat) (ln : Nat) (th : Int32) (tr : Nat → Nat) (mv : Nat → Nat) (fo : Int32) (sp : Nat) (wr : Bool) (td : Nat → Int32)  : MM l G yX5_copy cX5_copy 5 none ⟨0, 0, 0, 0⟩ [.ref (md 1), .int (nI 0), .ref (md 0), .int (nI 0)] (MRW G mh md gr bf hi sv ch hs inp ty er wy wd rf lt ln th tr mv fo sp wr td) (Qv_ G (fun (_ : Unit) => True) (fun (_ : Unit) => (MRW G mh md (va_cpy bf gr 0 0 32) bf hi sv ch hs inp ty er wy wd rf lt ln th tr mv fo sp wr td))) := by
  refine MM.of (by decide) (Nat.le_of_ble_eq_true rfl) ?_
  intro p e s m args below meth cd A C hini hA hK hZ hP hD ls hl
  generalize hQ : MQ below ((Qv_ G (fun (_ : Unit) => True) (fun (_ : Unit) => (MRW G mh md (va_cpy bf gr 0 0 32) bf hi sv ch hs inp ty er wy wd rf lt ln th tr mv fo sp wr td))) A) args s (⟨0, 0, 0, 0⟩ : Room).cells (⟨0, 0, 0, 0⟩ : Room).slots A = Q
  obtain ⟨hx, hb, hr, hts, hown, hlk, hml⟩ := C
  have hown : s.vm.findClass RX5 = some m.cls := hown
  have hS : va_S A s.heap s.heap [] := va_S.rf
  have hl : lv_has ls 5 [(0, .ref (md 1)), (1, .int (nI 0)), (2, .ref (md 0)), (3, .int (nI 0))] := hl
  refine lv_iconst (v := nI 0) hx hb dX5_copy_0 (by decide) ?_
  refine lv_istore (lv' := [(4, .int (nI 0)), (0, .ref (md 1)), (1, .int (nI 0)), (2, .ref (md 0)), (3, .int (nI 0))]) hx hb dX5_copy_1 hl (by decide) rfl (fun ls hl => ?_)
  have lp3 : ∀ (f : Nat) (i : Nat) (Mx : Nat → Int32), 32 - i < f → (i ≤ 32) → (Mx = va_cpy bf gr 0 0 i) → ∀ (H : Heap) (locs : List Loc) (ls : Array Slot), va_P G.1 CL (MRW G mh md Mx bf hi sv ch hs inp ty er wy wd rf lt ln th tr mv fo sp wr td) H → va_D A (MRW G mh md Mx bf hi sv ch hs inp ty er wy wd rf lt ln th tr mv fo sp wr td) → va_S A s.heap H locs → lv_has ls 5 [(4, .int (nI i)), (0, .ref (md 1)), (1, .int (nI 0)), (2, .ref (md 0)), (3, .int (nI 0))] → W p l e (⟨0, 0, 0, 0⟩ : Room) s m args below meth cd H locs 0 0 Q (F0 m 3 ls []) := by
    intro f
    induction f with
    | zero => intro i Mx hf; exact absurd hf (Nat.not_lt_zero _)
    | succ f ih3 =>
      intro i Mx hf hi9 hM H locs ls hP hD hS hl
      refine lv_iload hx hb dX5_copy_3 (lv_at hl 0 rfl) ?_
      refine lv_bipush (v := nI 32) hx hb dX5_copy_5 (by decide) ?_
      refine n_cmp_ge (tgt := 28) hx hb dX5_copy_7 (by decide) (by omega) (by omega) (fun c7 => ?_) (fun c7 => ?_)
      · skip
        have e_gr : Mx = (va_cpy bf gr 0 0 32) := (by rw [hM, show i = 32 by omega])
        rw [e_gr] at hP hD
        subst hQ
        exact ret_v hx hb hr hlk () trivial hP hD hS dX5_copy_28
      · skip
        refine lv_aload_n hx hb dX5_copy_10 rfl (lv_at hl 3 rfl) ?_
        refine lv_iload_n hx hb dX5_copy_11 rfl (lv_at hl 4 rfl) ?_
        refine lv_iload hx hb dX5_copy_12 (lv_at hl 0 rfl) ?_
        refine n_iadd hx hb dX5_copy_14 ?_
        refine lv_aload_n hx hb dX5_copy_15 rfl (lv_at hl 1 rfl) ?_
        refine lv_iload_n hx hb dX5_copy_16 rfl (lv_at hl 2 rfl) ?_
        refine lv_iload hx hb dX5_copy_17 (lv_at hl 0 rfl) ?_
        refine n_iadd hx hb dX5_copy_19 ?_
        refine r_iald hx hb hK hP 2 3 rfl rfl (by omega) (by decide) dX5_copy_20 ?_
        refine r_iast hx hb hK hP hD hS 1 3 rfl rfl (by omega) (by decide) dX5_copy_21 (fun H locs hP hD hS => ?_)
        have hP : va_P G.1 CL (MRW G mh md (va_up Mx (0 + i) (bf (0 + i))) bf hi sv ch hs inp ty er wy wd rf lt ln th tr mv fo sp wr td) _ := hP
        have hD : va_D A (MRW G mh md (va_up Mx (0 + i) (bf (0 + i))) bf hi sv ch hs inp ty er wy wd rf lt ln th tr mv fo sp wr td) := hD
        refine lv_iinc (v := nI (i + 1)) (lv' := [(4, .int (nI (i + 1))), (0, .ref (md 1)), (1, .int (nI 0)), (2, .ref (md 0)), (3, .int (nI 0))]) hx hb dX5_copy_22 hl (k := 0) rfl (nI_add _ _) (by decide) rfl (fun ls hl => ?_)
        refine lv_goto (tgt := 3) hx hb dX5_copy_25 (by decide) ?_
        exact ih3 (i + 1) (va_up Mx (0 + i) (bf (0 + i))) (by omega) (by omega) (by rw [hM]; exact cpy_s) _ _ _ hP hD hS (lv_sub hl [0, 1, 2, 3, 4] rfl)
  exact lp3 _ 0 gr (Nat.lt_succ_self _) (by omega) cpy_0 _ _ _ hP hD hS (lv_sub hl [0, 1, 2, 3, 4] rfl)
set_option maxHeartbeats 4000000 in
set_option maxRecDepth 100000 in
theorem m_X5_copy__bh (l : Launch) (G : GG) (mh : Nat) (md : Nat → Nat) (gr : Nat → Int32) (bf : Nat → Int32) (hi : Nat → Int32) (sv : Nat → Int32) (ch : Nat) (hs : Bool) (inp : Nat → Nat) (ty : Nat) (er : Int32) (wy : Int32) (wd : Int32) (rf : Bool) (lt : Nat → Nat) (ln : Nat) (th : Int32) (tr : Nat → Nat) (mv : Nat → Nat) (fo : Int32) (sp : Nat) (wr : Bool) (td : Nat → Int32) (th0 : Nat) (hb0 : th0 + 32 ≤ 256) : MM l G yX5_copy cX5_copy 5 none ⟨0, 0, 0, 0⟩ [.ref (md 1), .int (nI 0), .ref (md 2), .int (nI th0)] (MRW G mh md gr bf hi sv ch hs inp ty er wy wd rf lt ln th tr mv fo sp wr td) (Qv_ G (fun (_ : Unit) => True) (fun (_ : Unit) => (MRW G mh md gr bf (va_cpy bf hi 0 th0 32) sv ch hs inp ty er wy wd rf lt ln th tr mv fo sp wr td))) := by
  refine MM.of (by decide) (Nat.le_of_ble_eq_true rfl) ?_
  intro p e s m args below meth cd A C hini hA hK hZ hP hD ls hl
  generalize hQ : MQ below ((Qv_ G (fun (_ : Unit) => True) (fun (_ : Unit) => (MRW G mh md gr bf (va_cpy bf hi 0 th0 32) sv ch hs inp ty er wy wd rf lt ln th tr mv fo sp wr td))) A) args s (⟨0, 0, 0, 0⟩ : Room).cells (⟨0, 0, 0, 0⟩ : Room).slots A = Q
  obtain ⟨hx, hb, hr, hts, hown, hlk, hml⟩ := C
  have hown : s.vm.findClass RX5 = some m.cls := hown
  have hS : va_S A s.heap s.heap [] := va_S.rf
  have hl : lv_has ls 5 [(0, .ref (md 1)), (1, .int (nI 0)), (2, .ref (md 2)), (3, .int (nI th0))] := hl
  refine lv_iconst (v := nI 0) hx hb dX5_copy_0 (by decide) ?_
  refine lv_istore (lv' := [(4, .int (nI 0)), (0, .ref (md 1)), (1, .int (nI 0)), (2, .ref (md 2)), (3, .int (nI th0))]) hx hb dX5_copy_1 hl (by decide) rfl (fun ls hl => ?_)
  have lp3 : ∀ (f : Nat) (i : Nat) (Mx : Nat → Int32), 32 - i < f → (i ≤ 32) → (Mx = va_cpy bf hi 0 th0 i) → ∀ (H : Heap) (locs : List Loc) (ls : Array Slot), va_P G.1 CL (MRW G mh md gr bf Mx sv ch hs inp ty er wy wd rf lt ln th tr mv fo sp wr td) H → va_D A (MRW G mh md gr bf Mx sv ch hs inp ty er wy wd rf lt ln th tr mv fo sp wr td) → va_S A s.heap H locs → lv_has ls 5 [(4, .int (nI i)), (0, .ref (md 1)), (1, .int (nI 0)), (2, .ref (md 2)), (3, .int (nI th0))] → W p l e (⟨0, 0, 0, 0⟩ : Room) s m args below meth cd H locs 0 0 Q (F0 m 3 ls []) := by
    intro f
    induction f with
    | zero => intro i Mx hf; exact absurd hf (Nat.not_lt_zero _)
    | succ f ih3 =>
      intro i Mx hf hi9 hM H locs ls hP hD hS hl
      refine lv_iload hx hb dX5_copy_3 (lv_at hl 0 rfl) ?_
      refine lv_bipush (v := nI 32) hx hb dX5_copy_5 (by decide) ?_
      refine n_cmp_ge (tgt := 28) hx hb dX5_copy_7 (by decide) (by omega) (by omega) (fun c7 => ?_) (fun c7 => ?_)
      · skip
        have e_hi : Mx = (va_cpy bf hi 0 th0 32) := (by rw [hM, show i = 32 by omega])
        rw [e_hi] at hP hD
        subst hQ
        exact ret_v hx hb hr hlk () trivial hP hD hS dX5_copy_28
      · skip
        refine lv_aload_n hx hb dX5_copy_10 rfl (lv_at hl 3 rfl) ?_
        refine lv_iload_n hx hb dX5_copy_11 rfl (lv_at hl 4 rfl) ?_
        refine lv_iload hx hb dX5_copy_12 (lv_at hl 0 rfl) ?_
        refine n_iadd hx hb dX5_copy_14 ?_
        refine lv_aload_n hx hb dX5_copy_15 rfl (lv_at hl 1 rfl) ?_
        refine lv_iload_n hx hb dX5_copy_16 rfl (lv_at hl 2 rfl) ?_
        refine lv_iload hx hb dX5_copy_17 (lv_at hl 0 rfl) ?_
        refine n_iadd hx hb dX5_copy_19 ?_
        refine r_iald hx hb hK hP 2 3 rfl rfl (by omega) (by decide) dX5_copy_20 ?_
        refine r_iast hx hb hK hP hD hS 3 3 rfl rfl (by omega) (by decide) dX5_copy_21 (fun H locs hP hD hS => ?_)
        have hP : va_P G.1 CL (MRW G mh md gr bf (va_up Mx (th0 + i) (bf (0 + i))) sv ch hs inp ty er wy wd rf lt ln th tr mv fo sp wr td) _ := hP
        have hD : va_D A (MRW G mh md gr bf (va_up Mx (th0 + i) (bf (0 + i))) sv ch hs inp ty er wy wd rf lt ln th tr mv fo sp wr td) := hD
        refine lv_iinc (v := nI (i + 1)) (lv' := [(4, .int (nI (i + 1))), (0, .ref (md 1)), (1, .int (nI 0)), (2, .ref (md 2)), (3, .int (nI th0))]) hx hb dX5_copy_22 hl (k := 0) rfl (nI_add _ _) (by decide) rfl (fun ls hl => ?_)
        refine lv_goto (tgt := 3) hx hb dX5_copy_25 (by decide) ?_
        exact ih3 (i + 1) (va_up Mx (th0 + i) (bf (0 + i))) (by omega) (by omega) (by rw [hM]; exact cpy_s) _ _ _ hP hD hS (lv_sub hl [0, 1, 2, 3, 4] rfl)
  exact lp3 _ 0 hi (Nat.lt_succ_self _) (by omega) cpy_0 _ _ _ hP hD hS (lv_sub hl [0, 1, 2, 3, 4] rfl)
set_option maxHeartbeats 4000000 in
set_option maxRecDepth 100000 in
theorem m_X5_copy__hg (l : Launch) (G : GG) (mh : Nat) (md : Nat → Nat) (gr : Nat → Int32) (bf : Nat → Int32) (hi : Nat → Int32) (sv : Nat → Int32) (ch : Nat) (hs : Bool) (inp : Nat → Nat) (ty : Nat) (er : Int32) (wy : Int32) (wd : Int32) (rf : Bool) (lt : Nat → Nat) (ln : Nat) (th : Int32) (tr : Nat → Nat) (mv : Nat → Nat) (fo : Int32) (sp : Nat) (wr : Bool) (td : Nat → Int32) (at0 : Nat) (hb0 : at0 + 32 ≤ 256) : MM l G yX5_copy cX5_copy 5 none ⟨0, 0, 0, 0⟩ [.ref (md 2), .int (nI at0), .ref (md 0), .int (nI 0)] (MRW G mh md gr bf hi sv ch hs inp ty er wy wd rf lt ln th tr mv fo sp wr td) (Qv_ G (fun (_ : Unit) => True) (fun (_ : Unit) => (MRW G mh md (va_cpy hi gr at0 0 32) bf hi sv ch hs inp ty er wy wd rf lt ln th tr mv fo sp wr td))) := by
  refine MM.of (by decide) (Nat.le_of_ble_eq_true rfl) ?_
  intro p e s m args below meth cd A C hini hA hK hZ hP hD ls hl
  generalize hQ : MQ below ((Qv_ G (fun (_ : Unit) => True) (fun (_ : Unit) => (MRW G mh md (va_cpy hi gr at0 0 32) bf hi sv ch hs inp ty er wy wd rf lt ln th tr mv fo sp wr td))) A) args s (⟨0, 0, 0, 0⟩ : Room).cells (⟨0, 0, 0, 0⟩ : Room).slots A = Q
  obtain ⟨hx, hb, hr, hts, hown, hlk, hml⟩ := C
  have hown : s.vm.findClass RX5 = some m.cls := hown
  have hS : va_S A s.heap s.heap [] := va_S.rf
  have hl : lv_has ls 5 [(0, .ref (md 2)), (1, .int (nI at0)), (2, .ref (md 0)), (3, .int (nI 0))] := hl
  refine lv_iconst (v := nI 0) hx hb dX5_copy_0 (by decide) ?_
  refine lv_istore (lv' := [(4, .int (nI 0)), (0, .ref (md 2)), (1, .int (nI at0)), (2, .ref (md 0)), (3, .int (nI 0))]) hx hb dX5_copy_1 hl (by decide) rfl (fun ls hl => ?_)
  have lp3 : ∀ (f : Nat) (i : Nat) (Mx : Nat → Int32), 32 - i < f → (i ≤ 32) → (Mx = va_cpy hi gr at0 0 i) → ∀ (H : Heap) (locs : List Loc) (ls : Array Slot), va_P G.1 CL (MRW G mh md Mx bf hi sv ch hs inp ty er wy wd rf lt ln th tr mv fo sp wr td) H → va_D A (MRW G mh md Mx bf hi sv ch hs inp ty er wy wd rf lt ln th tr mv fo sp wr td) → va_S A s.heap H locs → lv_has ls 5 [(4, .int (nI i)), (0, .ref (md 2)), (1, .int (nI at0)), (2, .ref (md 0)), (3, .int (nI 0))] → W p l e (⟨0, 0, 0, 0⟩ : Room) s m args below meth cd H locs 0 0 Q (F0 m 3 ls []) := by
    intro f
    induction f with
    | zero => intro i Mx hf; exact absurd hf (Nat.not_lt_zero _)
    | succ f ih3 =>
      intro i Mx hf hi9 hM H locs ls hP hD hS hl
      refine lv_iload hx hb dX5_copy_3 (lv_at hl 0 rfl) ?_
      refine lv_bipush (v := nI 32) hx hb dX5_copy_5 (by decide) ?_
      refine n_cmp_ge (tgt := 28) hx hb dX5_copy_7 (by decide) (by omega) (by omega) (fun c7 => ?_) (fun c7 => ?_)
      · skip
        have e_gr : Mx = (va_cpy hi gr at0 0 32) := (by rw [hM, show i = 32 by omega])
        rw [e_gr] at hP hD
        subst hQ
        exact ret_v hx hb hr hlk () trivial hP hD hS dX5_copy_28
      · skip
        refine lv_aload_n hx hb dX5_copy_10 rfl (lv_at hl 3 rfl) ?_
        refine lv_iload_n hx hb dX5_copy_11 rfl (lv_at hl 4 rfl) ?_
        refine lv_iload hx hb dX5_copy_12 (lv_at hl 0 rfl) ?_
        refine n_iadd hx hb dX5_copy_14 ?_
        refine lv_aload_n hx hb dX5_copy_15 rfl (lv_at hl 1 rfl) ?_
        refine lv_iload_n hx hb dX5_copy_16 rfl (lv_at hl 2 rfl) ?_
        refine lv_iload hx hb dX5_copy_17 (lv_at hl 0 rfl) ?_
        refine n_iadd hx hb dX5_copy_19 ?_
        refine r_iald hx hb hK hP 3 3 rfl rfl (by omega) (by decide) dX5_copy_20 ?_
        refine r_iast hx hb hK hP hD hS 1 3 rfl rfl (by omega) (by decide) dX5_copy_21 (fun H locs hP hD hS => ?_)
        have hP : va_P G.1 CL (MRW G mh md (va_up Mx (0 + i) (hi (at0 + i))) bf hi sv ch hs inp ty er wy wd rf lt ln th tr mv fo sp wr td) _ := hP
        have hD : va_D A (MRW G mh md (va_up Mx (0 + i) (hi (at0 + i))) bf hi sv ch hs inp ty er wy wd rf lt ln th tr mv fo sp wr td) := hD
        refine lv_iinc (v := nI (i + 1)) (lv' := [(4, .int (nI (i + 1))), (0, .ref (md 2)), (1, .int (nI at0)), (2, .ref (md 0)), (3, .int (nI 0))]) hx hb dX5_copy_22 hl (k := 0) rfl (nI_add _ _) (by decide) rfl (fun ls hl => ?_)
        refine lv_goto (tgt := 3) hx hb dX5_copy_25 (by decide) ?_
        exact ih3 (i + 1) (va_up Mx (0 + i) (hi (at0 + i))) (by omega) (by omega) (by rw [hM]; exact cpy_s) _ _ _ hP hD hS (lv_sub hl [0, 1, 2, 3, 4] rfl)
  exact lp3 _ 0 gr (Nat.lt_succ_self _) (by omega) cpy_0 _ _ _ hP hD hS (lv_sub hl [0, 1, 2, 3, 4] rfl)
set_option maxHeartbeats 4000000 in
set_option maxRecDepth 100000 in
theorem m_X5_copy__gs (l : Launch) (G : GG) (mh : Nat) (md : Nat → Nat) (gr : Nat → Int32) (bf : Nat → Int32) (hi : Nat → Int32) (sv : Nat → Int32) (ch : Nat) (hs : Bool) (inp : Nat → Nat) (ty : Nat) (er : Int32) (wy : Int32) (wd : Int32) (rf : Bool) (lt : Nat → Nat) (ln : Nat) (th : Int32) (tr : Nat → Nat) (mv : Nat → Nat) (fo : Int32) (sp : Nat) (wr : Bool) (td : Nat → Int32)  : MM l G yX5_copy cX5_copy 5 none ⟨0, 0, 0, 0⟩ [.ref (md 0), .int (nI 0), .ref (md 3), .int (nI 0)] (MRW G mh md gr bf hi sv ch hs inp ty er wy wd rf lt ln th tr mv fo sp wr td) (Qv_ G (fun (_ : Unit) => True) (fun (_ : Unit) => (MRW G mh md gr bf hi (va_cpy gr sv 0 0 32) ch hs inp ty er wy wd rf lt ln th tr mv fo sp wr td))) := by
  refine MM.of (by decide) (Nat.le_of_ble_eq_true rfl) ?_
  intro p e s m args below meth cd A C hini hA hK hZ hP hD ls hl
  generalize hQ : MQ below ((Qv_ G (fun (_ : Unit) => True) (fun (_ : Unit) => (MRW G mh md gr bf hi (va_cpy gr sv 0 0 32) ch hs inp ty er wy wd rf lt ln th tr mv fo sp wr td))) A) args s (⟨0, 0, 0, 0⟩ : Room).cells (⟨0, 0, 0, 0⟩ : Room).slots A = Q
  obtain ⟨hx, hb, hr, hts, hown, hlk, hml⟩ := C
  have hown : s.vm.findClass RX5 = some m.cls := hown
  have hS : va_S A s.heap s.heap [] := va_S.rf
  have hl : lv_has ls 5 [(0, .ref (md 0)), (1, .int (nI 0)), (2, .ref (md 3)), (3, .int (nI 0))] := hl
  refine lv_iconst (v := nI 0) hx hb dX5_copy_0 (by decide) ?_
  refine lv_istore (lv' := [(4, .int (nI 0)), (0, .ref (md 0)), (1, .int (nI 0)), (2, .ref (md 3)), (3, .int (nI 0))]) hx hb dX5_copy_1 hl (by decide) rfl (fun ls hl => ?_)
  have lp3 : ∀ (f : Nat) (i : Nat) (Mx : Nat → Int32), 32 - i < f → (i ≤ 32) → (Mx = va_cpy gr sv 0 0 i) → ∀ (H : Heap) (locs : List Loc) (ls : Array Slot), va_P G.1 CL (MRW G mh md gr bf hi Mx ch hs inp ty er wy wd rf lt ln th tr mv fo sp wr td) H → va_D A (MRW G mh md gr bf hi Mx ch hs inp ty er wy wd rf lt ln th tr mv fo sp wr td) → va_S A s.heap H locs → lv_has ls 5 [(4, .int (nI i)), (0, .ref (md 0)), (1, .int (nI 0)), (2, .ref (md 3)), (3, .int (nI 0))] → W p l e (⟨0, 0, 0, 0⟩ : Room) s m args below meth cd H locs 0 0 Q (F0 m 3 ls []) := by
    intro f
    induction f with
    | zero => intro i Mx hf; exact absurd hf (Nat.not_lt_zero _)
    | succ f ih3 =>
      intro i Mx hf hi9 hM H locs ls hP hD hS hl
      refine lv_iload hx hb dX5_copy_3 (lv_at hl 0 rfl) ?_
      refine lv_bipush (v := nI 32) hx hb dX5_copy_5 (by decide) ?_
      refine n_cmp_ge (tgt := 28) hx hb dX5_copy_7 (by decide) (by omega) (by omega) (fun c7 => ?_) (fun c7 => ?_)
      · skip
        have e_sv : Mx = (va_cpy gr sv 0 0 32) := (by rw [hM, show i = 32 by omega])
        rw [e_sv] at hP hD
        subst hQ
        exact ret_v hx hb hr hlk () trivial hP hD hS dX5_copy_28
      · skip
        refine lv_aload_n hx hb dX5_copy_10 rfl (lv_at hl 3 rfl) ?_
        refine lv_iload_n hx hb dX5_copy_11 rfl (lv_at hl 4 rfl) ?_
        refine lv_iload hx hb dX5_copy_12 (lv_at hl 0 rfl) ?_
        refine n_iadd hx hb dX5_copy_14 ?_
        refine lv_aload_n hx hb dX5_copy_15 rfl (lv_at hl 1 rfl) ?_
        refine lv_iload_n hx hb dX5_copy_16 rfl (lv_at hl 2 rfl) ?_
        refine lv_iload hx hb dX5_copy_17 (lv_at hl 0 rfl) ?_
        refine n_iadd hx hb dX5_copy_19 ?_
        refine r_iald hx hb hK hP 1 3 rfl rfl (by omega) (by decide) dX5_copy_20 ?_
        refine r_iast hx hb hK hP hD hS 4 3 rfl rfl (by omega) (by decide) dX5_copy_21 (fun H locs hP hD hS => ?_)
        have hP : va_P G.1 CL (MRW G mh md gr bf hi (va_up Mx (0 + i) (gr (0 + i))) ch hs inp ty er wy wd rf lt ln th tr mv fo sp wr td) _ := hP
        have hD : va_D A (MRW G mh md gr bf hi (va_up Mx (0 + i) (gr (0 + i))) ch hs inp ty er wy wd rf lt ln th tr mv fo sp wr td) := hD
        refine lv_iinc (v := nI (i + 1)) (lv' := [(4, .int (nI (i + 1))), (0, .ref (md 0)), (1, .int (nI 0)), (2, .ref (md 3)), (3, .int (nI 0))]) hx hb dX5_copy_22 hl (k := 0) rfl (nI_add _ _) (by decide) rfl (fun ls hl => ?_)
        refine lv_goto (tgt := 3) hx hb dX5_copy_25 (by decide) ?_
        exact ih3 (i + 1) (va_up Mx (0 + i) (gr (0 + i))) (by omega) (by omega) (by rw [hM]; exact cpy_s) _ _ _ hP hD hS (lv_sub hl [0, 1, 2, 3, 4] rfl)
  exact lp3 _ 0 sv (Nat.lt_succ_self _) (by omega) cpy_0 _ _ _ hP hD hS (lv_sub hl [0, 1, 2, 3, 4] rfl)
set_option maxHeartbeats 4000000 in
set_option maxRecDepth 100000 in
theorem m_X5_copy__sg (l : Launch) (G : GG) (mh : Nat) (md : Nat → Nat) (gr : Nat → Int32) (bf : Nat → Int32) (hi : Nat → Int32) (sv : Nat → Int32) (ch : Nat) (hs : Bool) (inp : Nat → Nat) (ty : Nat) (er : Int32) (wy : Int32) (wd : Int32) (rf : Bool) (lt : Nat → Nat) (ln : Nat) (th : Int32) (tr : Nat → Nat) (mv : Nat → Nat) (fo : Int32) (sp : Nat) (wr : Bool) (td : Nat → Int32)  : MM l G yX5_copy cX5_copy 5 none ⟨0, 0, 0, 0⟩ [.ref (md 3), .int (nI 0), .ref (md 0), .int (nI 0)] (MRW G mh md gr bf hi sv ch hs inp ty er wy wd rf lt ln th tr mv fo sp wr td) (Qv_ G (fun (_ : Unit) => True) (fun (_ : Unit) => (MRW G mh md (va_cpy sv gr 0 0 32) bf hi sv ch hs inp ty er wy wd rf lt ln th tr mv fo sp wr td))) := by
  refine MM.of (by decide) (Nat.le_of_ble_eq_true rfl) ?_
  intro p e s m args below meth cd A C hini hA hK hZ hP hD ls hl
  generalize hQ : MQ below ((Qv_ G (fun (_ : Unit) => True) (fun (_ : Unit) => (MRW G mh md (va_cpy sv gr 0 0 32) bf hi sv ch hs inp ty er wy wd rf lt ln th tr mv fo sp wr td))) A) args s (⟨0, 0, 0, 0⟩ : Room).cells (⟨0, 0, 0, 0⟩ : Room).slots A = Q
  obtain ⟨hx, hb, hr, hts, hown, hlk, hml⟩ := C
  have hown : s.vm.findClass RX5 = some m.cls := hown
  have hS : va_S A s.heap s.heap [] := va_S.rf
  have hl : lv_has ls 5 [(0, .ref (md 3)), (1, .int (nI 0)), (2, .ref (md 0)), (3, .int (nI 0))] := hl
  refine lv_iconst (v := nI 0) hx hb dX5_copy_0 (by decide) ?_
  refine lv_istore (lv' := [(4, .int (nI 0)), (0, .ref (md 3)), (1, .int (nI 0)), (2, .ref (md 0)), (3, .int (nI 0))]) hx hb dX5_copy_1 hl (by decide) rfl (fun ls hl => ?_)
  have lp3 : ∀ (f : Nat) (i : Nat) (Mx : Nat → Int32), 32 - i < f → (i ≤ 32) → (Mx = va_cpy sv gr 0 0 i) → ∀ (H : Heap) (locs : List Loc) (ls : Array Slot), va_P G.1 CL (MRW G mh md Mx bf hi sv ch hs inp ty er wy wd rf lt ln th tr mv fo sp wr td) H → va_D A (MRW G mh md Mx bf hi sv ch hs inp ty er wy wd rf lt ln th tr mv fo sp wr td) → va_S A s.heap H locs → lv_has ls 5 [(4, .int (nI i)), (0, .ref (md 3)), (1, .int (nI 0)), (2, .ref (md 0)), (3, .int (nI 0))] → W p l e (⟨0, 0, 0, 0⟩ : Room) s m args below meth cd H locs 0 0 Q (F0 m 3 ls []) := by
    intro f
    induction f with
    | zero => intro i Mx hf; exact absurd hf (Nat.not_lt_zero _)
    | succ f ih3 =>
      intro i Mx hf hi9 hM H locs ls hP hD hS hl
      refine lv_iload hx hb dX5_copy_3 (lv_at hl 0 rfl) ?_
      refine lv_bipush (v := nI 32) hx hb dX5_copy_5 (by decide) ?_
      refine n_cmp_ge (tgt := 28) hx hb dX5_copy_7 (by decide) (by omega) (by omega) (fun c7 => ?_) (fun c7 => ?_)
      · skip
        have e_gr : Mx = (va_cpy sv gr 0 0 32) := (by rw [hM, show i = 32 by omega])
        rw [e_gr] at hP hD
        subst hQ
        exact ret_v hx hb hr hlk () trivial hP hD hS dX5_copy_28
      · skip
        refine lv_aload_n hx hb dX5_copy_10 rfl (lv_at hl 3 rfl) ?_
        refine lv_iload_n hx hb dX5_copy_11 rfl (lv_at hl 4 rfl) ?_
        refine lv_iload hx hb dX5_copy_12 (lv_at hl 0 rfl) ?_
        refine n_iadd hx hb dX5_copy_14 ?_
        refine lv_aload_n hx hb dX5_copy_15 rfl (lv_at hl 1 rfl) ?_
        refine lv_iload_n hx hb dX5_copy_16 rfl (lv_at hl 2 rfl) ?_
        refine lv_iload hx hb dX5_copy_17 (lv_at hl 0 rfl) ?_
        refine n_iadd hx hb dX5_copy_19 ?_
        refine r_iald hx hb hK hP 4 3 rfl rfl (by omega) (by decide) dX5_copy_20 ?_
        refine r_iast hx hb hK hP hD hS 1 3 rfl rfl (by omega) (by decide) dX5_copy_21 (fun H locs hP hD hS => ?_)
        have hP : va_P G.1 CL (MRW G mh md (va_up Mx (0 + i) (sv (0 + i))) bf hi sv ch hs inp ty er wy wd rf lt ln th tr mv fo sp wr td) _ := hP
        have hD : va_D A (MRW G mh md (va_up Mx (0 + i) (sv (0 + i))) bf hi sv ch hs inp ty er wy wd rf lt ln th tr mv fo sp wr td) := hD
        refine lv_iinc (v := nI (i + 1)) (lv' := [(4, .int (nI (i + 1))), (0, .ref (md 3)), (1, .int (nI 0)), (2, .ref (md 0)), (3, .int (nI 0))]) hx hb dX5_copy_22 hl (k := 0) rfl (nI_add _ _) (by decide) rfl (fun ls hl => ?_)
        refine lv_goto (tgt := 3) hx hb dX5_copy_25 (by decide) ?_
        exact ih3 (i + 1) (va_up Mx (0 + i) (sv (0 + i))) (by omega) (by omega) (by rw [hM]; exact cpy_s) _ _ _ hP hD hS (lv_sub hl [0, 1, 2, 3, 4] rfl)
  exact lp3 _ 0 gr (Nat.lt_succ_self _) (by omega) cpy_0 _ _ _ hP hD hS (lv_sub hl [0, 1, 2, 3, 4] rfl)
set_option maxHeartbeats 4000000 in
set_option maxRecDepth 100000 in
theorem m_X5_looksBack (l : Launch) (G : GG) (mh : Nat) (md : Nat → Nat) (nr : Nat) (nc : Nat) (pL : Nat → Nat) (pG : Nat → Nat) (pB : Nat → Bool) (pk : Nat → Int32) (bf : Nat → Int32) (hi : Nat → Int32) (sv : Nat → Int32) (ch : Nat) (hs : Bool) (inp : Nat → Nat) (ty : Nat) (er : Int32) (wy : Int32) (wd : Int32) (rf : Bool) (lt : Nat → Nat) (ln : Nat) (th : Int32) (tr : Nat → Nat) (mv : Nat → Nat) (fo : Int32) (sp : Nat) (wr : Bool) (td : Nat → Int32)  : MM l G yX5_looksBack cX5_looksBack 1 none ⟨1, 0, 0, 24⟩ [.ref mh] (MW G mh md nr nc pL pG pB pk bf hi sv ch hs inp ty er wy wd rf lt ln th tr mv fo sp wr td) (Qv_ G (fun (_ : Unit) => True) (fun (_ : Unit) => (MW G mh md nr nc pL pG pB pk (gZ (nr, nc, pL, pG, pB, pk)) hi sv ch hs inp ty er wy wd rf lt ln th tr mv fo sp wr td))) := by
  refine MM.of (by decide) (Nat.le_of_ble_eq_true rfl) ?_
  intro p e s m args below meth cd A C hini hA hK hZ hP hD ls hl
  generalize hQ : MQ below ((Qv_ G (fun (_ : Unit) => True) (fun (_ : Unit) => (MW G mh md nr nc pL pG pB pk (gZ (nr, nc, pL, pG, pB, pk)) hi sv ch hs inp ty er wy wd rf lt ln th tr mv fo sp wr td))) A) args s (⟨1, 0, 0, 24⟩ : Room).cells (⟨1, 0, 0, 24⟩ : Room).slots A = Q
  obtain ⟨hx, hb, hr, hts, hown, hlk, hml⟩ := C
  have hown : s.vm.findClass RX5 = some m.cls := hown
  have hS : va_S A s.heap s.heap [] := va_S.rf
  have hl : lv_has ls 1 [(0, .ref mh)] := hl
  refine lv_aload_n hx hb dX5_looksBack_0 rfl (lv_at hl 0 rfl) ?_
  refine va_get (D := G.1) (ci := 4) (v := .ref (md 0)) (C := RX5) (T := TX5) (N := 21) hx hb hts in_X5 hown hK hP 0 rfl rfl 0 (by decide) (hts _ q1727) (fun _ h9 => h9) rfl dX5_looksBack_1 ?_
  refine lv_iconst (v := nI 0) hx hb dX5_looksBack_4 (by decide) ?_
  refine lv_aload_n hx hb dX5_looksBack_5 rfl (lv_at hl 0 rfl) ?_
  refine va_get (D := G.1) (ci := 4) (v := .ref (md 1)) (C := RX5) (T := TX5) (N := 21) hx hb hts in_X5 hown hK hP 0 rfl rfl 1 (by decide) (hts _ q1728) (fun _ h9 => h9) rfl dX5_looksBack_6 ?_
  refine lv_iconst (v := nI 0) hx hb dX5_looksBack_9 (by decide) ?_
  refine callSv (As := [.ref (md 0), .int (nI 0), .ref (md 1), .int (nI 0)]) (rest := []) (wc := (MRW G mh md (gZ (nr, nc, pL, pG, pB, pk)) bf hi sv ch hs inp ty er wy wd rf lt ln th tr mv fo sp wr td)) (wr := ([] : va_W)) ⟨hx, hb, hml, hown, hts⟩ (m_X5_copy__gb l G mh md (gZ (nr, nc, pL, pG, pB, pk)) bf hi sv ch hs inp ty er wy wd rf lt ln th tr mv fo sp wr td ) (va_cwS 4 hts (lw_S q1803 q1804 q105 q1805) rfl rfl rfl (by decide +kernel) ⟨Nat.le_of_ble_eq_true rfl, Nat.le_of_ble_eq_true rfl⟩) hK hZ hA hP hD hS [0, 1, 2, 3, 4, 5, 6, 7, 8, 9] [] rfl rfl (by decide) (by decide) (by decide) rfl hl.1 (Nat.le_of_ble_eq_true rfl) ⟨Nat.le_of_ble_eq_true rfl, Nat.le_of_ble_eq_true rfl⟩ rfl dX5_looksBack_10 (fun u9 H locs hw9 hP hD hS => ?_)
  have hP : va_P G.1 CL (MRW G mh md (gZ (nr, nc, pL, pG, pB, pk)) (va_cpy (gZ (nr, nc, pL, pG, pB, pk)) bf 0 0 32) hi sv ch hs inp ty er wy wd rf lt ln th tr mv fo sp wr td) _ := hP
  have hD : va_D A (MRW G mh md (gZ (nr, nc, pL, pG, pB, pk)) (va_cpy (gZ (nr, nc, pL, pG, pB, pk)) bf 0 0 32) hi sv ch hs inp ty er wy wd rf lt ln th tr mv fo sp wr td) := hD
  have hP : va_P G.1 CL (MW G mh md nr nc pL pG pB pk (va_cpy (gZ (nr, nc, pL, pG, pB, pk)) bf 0 0 32) hi sv ch hs inp ty er wy wd rf lt ln th tr mv fo sp wr td) _ := hP
  have hD : va_D A (MW G mh md nr nc pL pG pB pk (va_cpy (gZ (nr, nc, pL, pG, pB, pk)) bf 0 0 32) hi sv ch hs inp ty er wy wd rf lt ln th tr mv fo sp wr td) := hD
  obtain ⟨hP, hD⟩ := say_i (gZ (nr, nc, pL, pG, pB, pk)) hP hD 2 rfl (fun j hj => cpy_a hj)
  have hP : va_P G.1 CL (MW G mh md nr nc pL pG pB pk (gZ (nr, nc, pL, pG, pB, pk)) hi sv ch hs inp ty er wy wd rf lt ln th tr mv fo sp wr td) _ := hP
  have hD : va_D A (MW G mh md nr nc pL pG pB pk (gZ (nr, nc, pL, pG, pB, pk)) hi sv ch hs inp ty er wy wd rf lt ln th tr mv fo sp wr td) := hD
  subst hQ
  exact ret_v hx hb hr hlk () trivial hP hD hS dX5_looksBack_13
