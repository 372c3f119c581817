/-- a row of turns, told as a number, leads to the goal -/
def ldN (nr nc : Nat) (B : Nat → Bool) (K : Nat → Nat) (c : Nat) : Nat → (Nat → Nat) → Bool
  | 0, L => decide (hm nr nc L K = nr * nc)
  | d + 1, L => !B (c / (2 * (nr + nc)) ^ d % (2 * (nr + nc)) / 2) && ldN nr nc B K c d (tn nr nc (c / (2 * (nr + nc)) ^ d % (2 * (nr + nc))) L)
def ldF (nr nc c d : Nat) : Int32 := if d = 0 then -1 else nI (c / (2 * (nr + nc)) ^ (d - 1))
section LD
variable {nr nc : Nat} {B : Nat → Bool} {K L : Nat → Nat} {c : Nat}
theorem ldN_1 : ldN nr nc B K c 1 L = (!B (c / 1 % (2 * (nr + nc)) / 2) && decide (hm nr nc (tn nr nc (c / 1 % (2 * (nr + nc))) L) K = nr * nc)) := by
  simp only [ldN, Nat.pow_zero]; rfl
theorem ldN_2 : ldN nr nc B K c 2 L = (!B (c / (2 * (nr + nc)) % (2 * (nr + nc)) / 2) && (!B (c / 1 % (2 * (nr + nc)) / 2) && decide (hm nr nc (tn nr nc (c / 1 % (2 * (nr + nc))) (tn nr nc (c / (2 * (nr + nc)) % (2 * (nr + nc))) L)) K = nr * nc))) := by
  simp only [ldN, Nat.pow_zero, Nat.pow_one]
theorem ldN_3 : ldN nr nc B K c 3 L = (!B (c / (2 * (nr + nc) * (2 * (nr + nc))) % (2 * (nr + nc)) / 2) && (!B (c / (2 * (nr + nc)) % (2 * (nr + nc)) / 2) && (!B (c / 1 % (2 * (nr + nc)) / 2) && decide (hm nr nc (tn nr nc (c / 1 % (2 * (nr + nc))) (tn nr nc (c / (2 * (nr + nc)) % (2 * (nr + nc))) (tn nr nc (c / (2 * (nr + nc) * (2 * (nr + nc))) % (2 * (nr + nc))) L))) K = nr * nc)))) := by
  simp only [ldN, Nat.pow_zero, Nat.pow_one, Nat.pow_two]
end LD
theorem dg_mod {T c d j : Nat} (hT : 0 < T) (hj : j < d) : c % T ^ d / T ^ j % T = c / T ^ j % T := by
  obtain ⟨e, rfl⟩ : ∃ e, d = j + (e + 1) := ⟨d - j - 1, by omega⟩
  rw [Nat.pow_add, Nat.mod_mul_right_div_self, Nat.pow_succ, Nat.mod_mul_left_mod]
theorem ldN_mod {nr nc : Nat} {B : Nat → Bool} {K : Nat → Nat} (hT : 0 < nr + nc) (e : Nat) : ∀ (d c : Nat) (L : Nat → Nat), d ≤ e → ldN nr nc B K (c % (2 * (nr + nc)) ^ e) d L = ldN nr nc B K c d L
  | 0, _, _, _ => rfl
  | d + 1, c, L, h => by
    rw [ldN, ldN, dg_mod (by omega) (by omega), ldN_mod hT e d c _ (by omega)]
theorem ldN_rch {nr nc : Nat} {B : Nat → Bool} {K : Nat → Nat} (hT : 0 < nr + nc) : ∀ (d : Nat) (L : Nat → Nat), (∃ c, c < (2 * (nr + nc)) ^ d ∧ ldN nr nc B K c d L = true) ↔ rch nr nc B K d L = true
  | 0, L => ⟨fun ⟨_, _, h⟩ => h, fun h => ⟨0, by simp, h⟩⟩
  | d + 1, L => by
    have hp : 0 < (2 * (nr + nc)) ^ d := Nat.pow_pos (by omega)
    rw [rch_s]
    constructor
    · rintro ⟨c, h1, h2⟩
      rw [ldN, Bool.and_eq_true] at h2
      refine ⟨c / (2 * (nr + nc)) ^ d % (2 * (nr + nc)), Nat.mod_lt _ (by omega), by simpa using h2.1, ?_⟩
      refine (ldN_rch hT d _).mp ⟨c % (2 * (nr + nc)) ^ d, Nat.mod_lt _ hp, ?_⟩
      rw [ldN_mod hT d d c _ (Nat.le_refl d)]
      exact h2.2
    · rintro ⟨t, h1, h2, h3⟩
      obtain ⟨c, g1, g2⟩ := (ldN_rch hT d (tn nr nc t L)).mpr h3
      have e1 : (t * (2 * (nr + nc)) ^ d + c) / (2 * (nr + nc)) ^ d = t := by
        rw [Nat.mul_comm, Nat.mul_add_div hp, Nat.div_eq_of_lt g1, Nat.add_zero]
      have e2 : (t * (2 * (nr + nc)) ^ d + c) % (2 * (nr + nc)) ^ d = c := by
        rw [Nat.mul_comm, Nat.mul_add_mod, Nat.mod_eq_of_lt g1]
      refine ⟨t * (2 * (nr + nc)) ^ d + c, ?_, ?_⟩
      · rw [Nat.pow_succ, Nat.mul_comm ((2 * (nr + nc)) ^ d)]
        calc t * (2 * (nr + nc)) ^ d + c < t * (2 * (nr + nc)) ^ d + (2 * (nr + nc)) ^ d := by omega
          _ = (t + 1) * (2 * (nr + nc)) ^ d := by rw [Nat.add_mul, Nat.one_mul]
          _ ≤ 2 * (nr + nc) * (2 * (nr + nc)) ^ d := Nat.mul_le_mul_right _ h1
      · rw [ldN, e1, Nat.mod_eq_of_lt h1, h2, ← ldN_mod hT d d _ _ (Nat.le_refl d), e2, g2]; rfl
theorem fx_all {P : Nat → Bool} : ∀ {k : Nat}, (∀ j, j < k → P j = false) → fx P k = k
  | 0, _ => rfl
  | k + 1, h => fx_up (fx_all (fun j hj => h j (by omega))) (h k (by omega))
theorem fx_stay {P : Nat → Bool} {c n : Nat} (h : fx P c < c) (hn : c ≤ n) : fx P n = fx P c := by
  have hs := fx_spec (P := P) (n := c)
  exact fx_lt (by omega) (fx_all (fun j hj => hs.1 j hj)) (hs.2 h)
/-- the first row's first turn -/
theorem ldN_first {nr nc : Nat} {B : Nat → Bool} {K L : Nat → Nat} (hT : 0 < nr + nc) {d c : Nat} (hc : c < (2 * (nr + nc)) ^ (d + 1)) (h : ldN nr nc B K c (d + 1) L = true) (hl : ∀ c', c' < c → ldN nr nc B K c' (d + 1) L = false) : c / (2 * (nr + nc)) ^ d = ftN nr nc B L K d := by
  have hp : 0 < (2 * (nr + nc)) ^ d := Nat.pow_pos (by omega)
  have hlt : c / (2 * (nr + nc)) ^ d < 2 * (nr + nc) := Nat.div_lt_of_lt_mul (by rw [← Nat.pow_succ]; exact hc)
  have hQ : ∀ t, t < 2 * (nr + nc) → ((!B (t / 2) && rch nr nc B K d (tn nr nc t L)) = true ↔ ∃ c', c' < (2 * (nr + nc)) ^ d ∧ ldN nr nc B K (t * (2 * (nr + nc)) ^ d + c') (d + 1) L = true) := by
    intro t ht
    have e1 : ∀ c', c' < (2 * (nr + nc)) ^ d → (t * (2 * (nr + nc)) ^ d + c') / (2 * (nr + nc)) ^ d = t := fun c' g1 => by
      rw [Nat.mul_comm, Nat.mul_add_div hp, Nat.div_eq_of_lt g1, Nat.add_zero]
    have e2 : ∀ c', c' < (2 * (nr + nc)) ^ d → (t * (2 * (nr + nc)) ^ d + c') % (2 * (nr + nc)) ^ d = c' := fun c' g1 => by
      rw [Nat.mul_comm, Nat.mul_add_mod, Nat.mod_eq_of_lt g1]
    rw [Bool.and_eq_true, ← ldN_rch hT]
    constructor
    · rintro ⟨h1, c', g1, g2⟩
      refine ⟨c', g1, ?_⟩
      rw [ldN, e1 c' g1, Nat.mod_eq_of_lt ht, ← ldN_mod hT d d _ _ (Nat.le_refl d), e2 c' g1, h1, g2]; rfl
    · rintro ⟨c', g1, g2⟩
      rw [ldN, e1 c' g1, Nat.mod_eq_of_lt ht, ← ldN_mod hT d d _ _ (Nat.le_refl d), e2 c' g1, Bool.and_eq_true] at g2
      exact ⟨g2.1, c', g1, g2.2⟩
  have hsplit : c / (2 * (nr + nc)) ^ d * (2 * (nr + nc)) ^ d + c % (2 * (nr + nc)) ^ d = c := Nat.div_add_mod' c _
  unfold ftN
  refine (fx_lt hlt (fx_all (fun j hj => ?_)) ?_).symm
  · cases hP : (!B (j / 2) && rch nr nc B K d (tn nr nc j L)) with
    | false => rfl
    | true =>
      obtain ⟨c', g1, g2⟩ := (hQ j (by omega)).mp hP
      have hlt2 : j * (2 * (nr + nc)) ^ d + c' < c := by
        calc j * (2 * (nr + nc)) ^ d + c' < (j + 1) * (2 * (nr + nc)) ^ d := by rw [Nat.add_mul, Nat.one_mul]; omega
          _ ≤ c / (2 * (nr + nc)) ^ d * (2 * (nr + nc)) ^ d := Nat.mul_le_mul_right _ hj
          _ ≤ c := Nat.div_mul_le_self c _
      rw [hl _ hlt2] at g2
      exact absurd g2 (by decide)
  · exact (hQ _ hlt).mpr ⟨c % (2 * (nr + nc)) ^ d, Nat.mod_lt _ hp, by rw [hsplit]; exact h⟩
/-- the last place that is so, or d -/
def lx (P : Nat → Bool) (d : Nat) : Nat → Nat
  | 0 => d
  | k + 1 => if P k = true then k else lx P d k
def vF (n : Nat) (L K : Nat → Nat) (r : Nat) : Int32 := if K r = 46 then oN 12 (fx (fun c => decide (tm L n (97 + c) = 1) && decide (tm K n (97 + c) = 0)) 12) else gk (K r)
def mvF (n : Nat) (L K mv : Nat → Nat) (r : Nat) : Nat := lx (fun q => decide (nI (L q - 97) = vF n L K r)) (mv r) n
def awZ (nr nc : Nat) (L K : Nat → Nat) (B : Nat → Bool) : Nat := awN (fun d => rch nr nc B K d L)
theorem awZ_at {nr nc : Nat} {L K : Nat → Nat} {B : Nat → Bool} {d : Nat} (hd4 : d < 4) (h0 : ∀ j, j < d → rch nr nc B K j L = false) (h : rch nr nc B K d L = true) : awZ nr nc L K B = d := by
  unfold awZ awN
  rcases (show d = 0 ∨ d = 1 ∨ d = 2 ∨ d = 3 by omega) with rfl | rfl | rfl | rfl
  · simp [h]
  · simp [h, h0 0 (by omega)]
  · simp [h, h0 0 (by omega), h0 1 (by omega)]
  · simp [h, h0 0 (by omega), h0 1 (by omega), h0 2 (by omega)]
theorem awZ_4 {nr nc : Nat} {L K : Nat → Nat} {B : Nat → Bool} (h0 : ∀ j, j < 4 → rch nr nc B K j L = false) : awZ nr nc L K B = 4 := by
  unfold awZ awN
  simp [h0 0 (by omega), h0 1 (by omega), h0 2 (by omega), h0 3 (by omega)]
theorem T_pow {nr nc d : Nat} (hd : 2 ≤ nr ∧ nr ≤ 3 ∧ 2 ≤ nc ∧ nc ≤ 3) (h : d ≤ 4) : (2 * (nr + nc)) ^ d ≤ 20736 := by
  calc (2 * (nr + nc)) ^ d ≤ 12 ^ d := Nat.pow_le_pow_left (by omega) d
    _ ≤ 12 ^ 4 := Nat.pow_le_pow_right (by omega) h
    _ = 20736 := by decide
theorem T_sq {nr nc : Nat} (hd : 2 ≤ nr ∧ nr ≤ 3 ∧ 2 ≤ nc ∧ nc ≤ 3) : 64 ≤ 2 * (nr + nc) * (2 * (nr + nc)) ∧ 2 * (nr + nc) * (2 * (nr + nc)) ≤ 144 := by
  obtain ⟨a, b, c, d⟩ := hd
  rcases (show nr = 2 ∨ nr = 3 by omega) with rfl | rfl <;> rcases (show nc = 2 ∨ nc = 3 by omega) with rfl | rfl <;> decide
theorem gk_nI {K v : Nat} (hK : K = 46 ∨ (97 ≤ K ∧ K ≤ 108)) (hv : v < 12) : gk K = nI v ↔ K = 97 + v := by
  rw [← gk_n v]; exact gk_eq hK (Or.inr (by omega))
set_option maxHeartbeats 4000000 in
set_option maxRecDepth 100000 in
theorem m_X5_leads__0 (l : Launch) (G : GG) (mh : Nat) (md : Nat → Nat) (nr : Nat) (nc : Nat) (pL : Nat → Nat) (pG : Nat → Nat) (pB : Nat → Bool) (pk : Nat → Int32) (bf : Nat → Int32) (hi : Nat → Int32) (sv : Nat → Int32) (ch : Nat) (hs : Bool) (inp : Nat → Nat) (ty : Nat) (er : Int32) (wy : Int32) (wd : Int32) (rf : Bool) (lt : Nat → Nat) (ln : Nat) (th : Int32) (tr : Nat → Nat) (mv : Nat → Nat) (fo : Int32) (sp : Nat) (wr : Bool) (td : Nat → Int32) (cq : Nat) (hd : 2 ≤ nr ∧ nr ≤ 3 ∧ 2 ≤ nc ∧ nc ≤ 3) (hcd : cq < 30000) (hLR : ∀ q, q < nr * nc → 97 ≤ pL q ∧ pL q ≤ 108) (hKR : ∀ q, q < nr * nc → pG q = 46 ∨ (97 ≤ pG q ∧ pG q ≤ 108)) : MM l G yX5_leads cX5_leads 8 (some .boolean) ⟨2, 0, 0, 200⟩ [.ref mh, .int (nI cq), .int (nI 0)] (MW G mh md nr nc pL pG pB pk bf hi sv ch hs inp ty er wy wd rf lt ln th tr mv fo sp wr td) (Qi_ G (fun (r : Int32) (u : (Nat → Nat) × (Nat → Nat)) => r = bI (ldN nr nc pB pG cq 0 pL)) (fun (u : (Nat → Nat) × (Nat → Nat)) => (MW G mh md nr nc pL pG pB pk bf hi sv ch hs inp ty er wy wd rf lt ln th u.1 u.2 (-1) sp wr td))) := by
  refine MM.of (by decide) (Nat.le_of_ble_eq_true rfl) ?_
  intro p e s m args below meth cd A C hini hA hK hZ hP hD ls hl
  generalize hQ : MQ below ((Qi_ G (fun (r : Int32) (u : (Nat → Nat) × (Nat → Nat)) => r = bI (ldN nr nc pB pG cq 0 pL)) (fun (u : (Nat → Nat) × (Nat → Nat)) => (MW G mh md nr nc pL pG pB pk bf hi sv ch hs inp ty er wy wd rf lt ln th u.1 u.2 (-1) sp wr td))) A) args s (⟨2, 0, 0, 200⟩ : Room).cells (⟨2, 0, 0, 200⟩ : Room).slots A = Q
  obtain ⟨hx, hb, hr, hts, hown, hlk, hml⟩ := C
  have hown : s.vm.findClass RX5 = some m.cls := hown
  have hS : va_S A s.heap s.heap [] := va_S.rf
  have hl : lv_has ls 8 [(0, .ref mh), (1, .int (nI cq)), (2, .int (nI 0))] := hl
  have hmu := dm_mul hd
  have hq2 := T_sq hd
  refine lv_iconst (v := nI 2) hx hb dX5_leads_0 (by decide) ?_
  refine lv_aload_n hx hb dX5_leads_1 rfl (lv_at hl 0 rfl) ?_
  refine callVi (As := []) (rest := [.int (nI 2)]) (wc := (MW G mh md nr nc pL pG pB pk bf hi sv ch hs inp ty er wy wd rf lt ln th tr mv fo sp wr td)) (wr := ([] : va_W)) ⟨hx, hb, hml, hown, hts⟩ (m_X5_lines l G mh md nr nc pL pG pB pk bf hi sv ch hs inp ty er wy wd rf lt ln th tr mv fo sp wr td ) (cwV 0 hts (lw_V q1875 q1877 qs48 q105 q1878) rfl rfl rfl (by decide +kernel) ⟨Nat.le_of_ble_eq_true rfl, Nat.le_of_ble_eq_true rfl⟩) hK hZ hA hP hD hS [0, 1, 2, 3, 4, 5, 6, 7, 8, 9] [] rfl rfl (by decide) (by decide) (by decide) 0 4 rfl rfl rfl hl.1 (Nat.le_of_ble_eq_true rfl) ⟨Nat.le_of_ble_eq_true rfl, Nat.le_of_ble_eq_true rfl⟩ rfl dX5_leads_2 (fun r9 u9 H locs hw9 hP hD hS => ?_)
  subst hw9
  have hP : va_P G.1 CL (MW G mh md nr nc pL pG pB pk bf hi sv ch hs inp ty er wy wd rf lt ln th tr mv fo sp wr td) _ := hP
  have hD : va_D A (MW G mh md nr nc pL pG pB pk bf hi sv ch hs inp ty er wy wd rf lt ln th tr mv fo sp wr td) := hD
  refine n_imul hx hb dX5_leads_5 ?_
  refine lv_istore_n (lv' := [(3, .int (nI (2 * (nr + nc)))), (0, .ref mh), (1, .int (nI cq)), (2, .int (nI 0))]) hx hb dX5_leads_6 rfl hl (by decide) rfl (fun ls hl => ?_)
  refine lv_iconst (v := nI 1) hx hb dX5_leads_7 (by decide) ?_
  refine lv_istore (lv' := [(4, .int (nI 1)), (3, .int (nI (2 * (nr + nc)))), (0, .ref mh), (1, .int (nI cq)), (2, .int (nI 0))]) hx hb dX5_leads_8 hl (by decide) rfl (fun ls hl => ?_)
  refine lv_iconst (v := nI 1) hx hb dX5_leads_10 (by decide) ?_
  refine lv_istore (lv' := [(5, .int (nI 1)), (4, .int (nI 1)), (3, .int (nI (2 * (nr + nc)))), (0, .ref mh), (1, .int (nI cq)), (2, .int (nI 0))]) hx hb dX5_leads_11 hl (by decide) rfl (fun ls hl => ?_)
  refine lv_iload hx hb dX5_leads_13 (lv_at hl 0 rfl) ?_
  refine lv_iload_n hx hb dX5_leads_15 rfl (lv_at hl 5 rfl) ?_
  refine n_cmp_ge (tgt := 31) hx hb dX5_leads_16 (by decide) (by decide) (by decide) (fun c16 => ?_) (fun c16 => ?_)
  rotate_left
  · exact absurd c16 (by decide)
  refine lv_aload_n hx hb dX5_leads_31 rfl (lv_at hl 3 rfl) ?_
  refine lv_iload_n hx hb dX5_leads_32 rfl (lv_at hl 5 rfl) ?_
  refine n_if_ne (tgt := 40) hx hb dX5_leads_33 (by decide) (by decide) (fun c33 => ?_) (fun c33 => ?_)
  · exact absurd c33 (by decide)
  refine lv_iconst (v := (-1)) hx hb dX5_leads_36 (by decide) ?_
  refine lv_goto (tgt := 44) hx hb dX5_leads_37 (by decide) ?_
  refine va_put (D := G.1) (ci := 4) (v := .int (-1)) (ty := .int) (C := RX5) (T := TX5) (N := 21) hx hb hts in_X5 tyX5 tyX5_ok nmX5 hown hK hP hD hS 0 rfl rfl 17 (by decide) (hts _ q1744) (fun _ h9 => h9) rfl (by decide +kernel) rfl rfl (Nat.le_of_ble_eq_true rfl) dX5_leads_44 (fun H locs hP hD hS => ?_)
  have hP : va_P G.1 CL (MW G mh md nr nc pL pG pB pk bf hi sv ch hs inp ty er wy wd rf lt ln th tr mv (-1) sp wr td) _ := hP
  have hD : va_D A (MW G mh md nr nc pL pG pB pk bf hi sv ch hs inp ty er wy wd rf lt ln th tr mv (-1) sp wr td) := hD
  refine lv_aload_n hx hb dX5_leads_47 rfl (lv_at hl 3 rfl) ?_
  refine callVv (As := []) (rest := []) (wc := (MW G mh md nr nc pL pG pB pk bf hi sv ch hs inp ty er wy wd rf lt ln th tr mv (-1) sp wr td)) (wr := ([] : va_W)) ⟨hx, hb, hml, hown, hts⟩ (m_X5_tries l G mh md nr nc pL pG pB pk bf hi sv ch hs inp ty er wy wd rf lt ln th tr mv (-1) sp wr td (by first | assumption | omega) (by first | assumption | omega)) (cwV 0 hts (lw_V q1891 q1893 qs52 q105 q1894) rfl rfl rfl (by decide +kernel) ⟨Nat.le_of_ble_eq_true rfl, Nat.le_of_ble_eq_true rfl⟩) hK hZ hA hP hD hS [0, 1, 2, 3, 4, 5, 6, 7, 8, 9] [] rfl rfl (by decide) (by decide) (by decide) 0 4 rfl rfl rfl hl.1 (Nat.le_of_ble_eq_true rfl) ⟨Nat.le_of_ble_eq_true rfl, Nat.le_of_ble_eq_true rfl⟩ rfl dX5_leads_48 (fun u9 H locs hw9 hP hD hS => ?_)
  obtain ⟨tr1_2, e9⟩ : ∃ z, z = u9 := ⟨_, rfl⟩
  subst e9
  have hw48 : ∀ q, q < nr * nc → tr1_2 q = pL q - 97 := hw9
  have hP : va_P G.1 CL (MW G mh md nr nc pL pG pB pk bf hi sv ch hs inp ty er wy wd rf lt ln th tr1_2 mv (-1) sp wr td) _ := hP
  have hD : va_D A (MW G mh md nr nc pL pG pB pk bf hi sv ch hs inp ty er wy wd rf lt ln th tr1_2 mv (-1) sp wr td) := hD
  refine lv_iconst (v := nI 1) hx hb dX5_leads_51 (by decide) ?_
  refine lv_istore (lv' := [(5, .int (nI 1)), (4, .int (nI 1)), (3, .int (nI (2 * (nr + nc)))), (0, .ref mh), (1, .int (nI cq)), (2, .int (nI 0))]) hx hb dX5_leads_52 hl (by decide) rfl (fun ls hl => ?_)
  refine lv_iconst (v := nI 0) hx hb dX5_leads_54 (by decide) ?_
  refine lv_istore (lv' := [(6, .int (nI 0)), (5, .int (nI 1)), (4, .int (nI 1)), (3, .int (nI (2 * (nr + nc)))), (0, .ref mh), (1, .int (nI cq)), (2, .int (nI 0))]) hx hb dX5_leads_55 hl (by decide) rfl (fun ls hl => ?_)
  refine lv_iload hx hb dX5_leads_57 (lv_at hl 0 rfl) ?_
  refine lv_iload_n hx hb dX5_leads_59 rfl (lv_at hl 6 rfl) ?_
  refine n_cmp_ge (tgt := 102) hx hb dX5_leads_60 (by decide) (by decide) (by decide) (fun c60 => ?_) (fun c60 => ?_)
  rotate_left
  · exact absurd c60 (by decide)
  refine lv_iload hx hb dX5_leads_102 (lv_at hl 1 rfl) ?_
  refine n_if_eq (tgt := 122) hx hb dX5_leads_104 (by decide) (by decide) (fun c104 => ?_) (fun c104 => ?_)
  · exact absurd c104 (by decide)
  refine lv_aload_n hx hb dX5_leads_107 rfl (lv_at hl 4 rfl) ?_
  refine callVi (As := []) (rest := []) (wc := (MW G mh md nr nc pL pG pB pk bf hi sv ch hs inp ty er wy wd rf lt ln th tr1_2 mv (-1) sp wr td)) (wr := ([] : va_W)) ⟨hx, hb, hml, hown, hts⟩ (m_X5_homeTried l G mh md nr nc pL pG pB pk bf hi sv ch hs inp ty er wy wd rf lt ln th tr1_2 mv (-1) sp wr td pL (by first | assumption | omega) (by first | exact hw87 | exact hw48) hLR (by first | assumption | omega)) (cwV 0 hts (lw_V q1895 q1897 qs53 q105 q1898) rfl rfl rfl (by decide +kernel) ⟨Nat.le_of_ble_eq_true rfl, Nat.le_of_ble_eq_true rfl⟩) hK hZ hA hP hD hS [0, 1, 2, 3, 4, 5, 6, 7, 8, 9] [] rfl rfl (by decide) (by decide) (by decide) 0 4 rfl rfl rfl hl.1 (Nat.le_of_ble_eq_true rfl) ⟨Nat.le_of_ble_eq_true rfl, Nat.le_of_ble_eq_true rfl⟩ rfl dX5_leads_108 (fun r9 u9 H locs hw9 hP hD hS => ?_)
  subst hw9
  have hP : va_P G.1 CL (MW G mh md nr nc pL pG pB pk bf hi sv ch hs inp ty er wy wd rf lt ln th tr1_2 mv (-1) sp wr td) _ := hP
  have hD : va_D A (MW G mh md nr nc pL pG pB pk bf hi sv ch hs inp ty er wy wd rf lt ln th tr1_2 mv (-1) sp wr td) := hD
  refine lv_aload_n hx hb dX5_leads_111 rfl (lv_at hl 4 rfl) ?_
  refine callVi (As := []) (rest := [.int (nI (hm nr nc pL pG))]) (wc := (MW G mh md nr nc pL pG pB pk bf hi sv ch hs inp ty er wy wd rf lt ln th tr1_2 mv (-1) sp wr td)) (wr := ([] : va_W)) ⟨hx, hb, hml, hown, hts⟩ (m_X5_places l G mh md nr nc pL pG pB pk bf hi sv ch hs inp ty er wy wd rf lt ln th tr1_2 mv (-1) sp wr td ) (cwV 0 hts (lw_V q1817 q1819 qs38 q105 q1820) rfl rfl rfl (by decide +kernel) ⟨Nat.le_of_ble_eq_true rfl, Nat.le_of_ble_eq_true rfl⟩) hK hZ hA hP hD hS [0, 1, 2, 3, 4, 5, 6, 7, 8, 9] [] rfl rfl (by decide) (by decide) (by decide) 0 4 rfl rfl rfl hl.1 (Nat.le_of_ble_eq_true rfl) ⟨Nat.le_of_ble_eq_true rfl, Nat.le_of_ble_eq_true rfl⟩ rfl dX5_leads_112 (fun r9 u9 H locs hw9 hP hD hS => ?_)
  subst hw9
  have hP : va_P G.1 CL (MW G mh md nr nc pL pG pB pk bf hi sv ch hs inp ty er wy wd rf lt ln th tr1_2 mv (-1) sp wr td) _ := hP
  have hD : va_D A (MW G mh md nr nc pL pG pB pk bf hi sv ch hs inp ty er wy wd rf lt ln th tr1_2 mv (-1) sp wr td) := hD
  have hm9 := hm_le nr nc pL pG
  refine n_cmp_ne (tgt := 122) hx hb dX5_leads_115 (by decide) (by omega) (by omega) (fun c115 => ?_) (fun c115 => ?_)
  · skip
    refine lv_iconst (v := nI 0) hx hb dX5_leads_122 (by decide) ?_
    subst hQ
    exact ret_i hx hb hr hlk (⟨tr1_2, mv⟩) (bI_0 (by skip; first | (simp [ldN, c115]; done))) hP hD hS rfl dX5_leads_123
  · skip
    refine lv_iconst (v := nI 1) hx hb dX5_leads_118 (by decide) ?_
    refine lv_goto (tgt := 123) hx hb dX5_leads_119 (by decide) ?_
    subst hQ
    exact ret_i hx hb hr hlk (⟨tr1_2, mv⟩) (bI_1 (by skip; first | (simp [ldN, c115]; done))) hP hD hS rfl dX5_leads_123
set_option maxHeartbeats 4000000 in
set_option maxRecDepth 100000 in
theorem m_X5_leads__1 (l : Launch) (G : GG) (mh : Nat) (md : Nat → Nat) (nr : Nat) (nc : Nat) (pL : Nat → Nat) (pG : Nat → Nat) (pB : Nat → Bool) (pk : Nat → Int32) (bf : Nat → Int32) (hi : Nat → Int32) (sv : Nat → Int32) (ch : Nat) (hs : Bool) (inp : Nat → Nat) (ty : Nat) (er : Int32) (wy : Int32) (wd : Int32) (rf : Bool) (lt : Nat → Nat) (ln : Nat) (th : Int32) (tr : Nat → Nat) (mv : Nat → Nat) (fo : Int32) (sp : Nat) (wr : Bool) (td : Nat → Int32) (cq : Nat) (hd : 2 ≤ nr ∧ nr ≤ 3 ∧ 2 ≤ nc ∧ nc ≤ 3) (hcd : cq < 30000) (hLR : ∀ q, q < nr * nc → 97 ≤ pL q ∧ pL q ≤ 108) (hKR : ∀ q, q < nr * nc → pG q = 46 ∨ (97 ≤ pG q ∧ pG q ≤ 108)) : MM l G yX5_leads cX5_leads 8 (some .boolean) ⟨2, 0, 0, 200⟩ [.ref mh, .int (nI cq), .int (nI 1)] (MW G mh md nr nc pL pG pB pk bf hi sv ch hs inp ty er wy wd rf lt ln th tr mv fo sp wr td) (Qi_ G (fun (r : Int32) (u : (Nat → Nat) × (Nat → Nat)) => r = bI (ldN nr nc pB pG cq 1 pL)) (fun (u : (Nat → Nat) × (Nat → Nat)) => (MW G mh md nr nc pL pG pB pk bf hi sv ch hs inp ty er wy wd rf lt ln th u.1 u.2 (nI (cq / 1)) sp wr td))) := by
  refine MM.of (by decide) (Nat.le_of_ble_eq_true rfl) ?_
  intro p e s m args below meth cd A C hini hA hK hZ hP hD ls hl
  generalize hQ : MQ below ((Qi_ G (fun (r : Int32) (u : (Nat → Nat) × (Nat → Nat)) => r = bI (ldN nr nc pB pG cq 1 pL)) (fun (u : (Nat → Nat) × (Nat → Nat)) => (MW G mh md nr nc pL pG pB pk bf hi sv ch hs inp ty er wy wd rf lt ln th u.1 u.2 (nI (cq / 1)) sp wr td))) A) args s (⟨2, 0, 0, 200⟩ : Room).cells (⟨2, 0, 0, 200⟩ : Room).slots A = Q
  obtain ⟨hx, hb, hr, hts, hown, hlk, hml⟩ := C
  have hown : s.vm.findClass RX5 = some m.cls := hown
  have hS : va_S A s.heap s.heap [] := va_S.rf
  have hl : lv_has ls 8 [(0, .ref mh), (1, .int (nI cq)), (2, .int (nI 1))] := hl
  have hmu := dm_mul hd
  have hq2 := T_sq hd
  refine lv_iconst (v := nI 2) hx hb dX5_leads_0 (by decide) ?_
  refine lv_aload_n hx hb dX5_leads_1 rfl (lv_at hl 0 rfl) ?_
  refine callVi (As := []) (rest := [.int (nI 2)]) (wc := (MW G mh md nr nc pL pG pB pk bf hi sv ch hs inp ty er wy wd rf lt ln th tr mv fo sp wr td)) (wr := ([] : va_W)) ⟨hx, hb, hml, hown, hts⟩ (m_X5_lines l G mh md nr nc pL pG pB pk bf hi sv ch hs inp ty er wy wd rf lt ln th tr mv fo sp wr td ) (cwV 0 hts (lw_V q1875 q1877 qs48 q105 q1878) rfl rfl rfl (by decide +kernel) ⟨Nat.le_of_ble_eq_true rfl, Nat.le_of_ble_eq_true rfl⟩) hK hZ hA hP hD hS [0, 1, 2, 3, 4, 5, 6, 7, 8, 9] [] rfl rfl (by decide) (by decide) (by decide) 0 4 rfl rfl rfl hl.1 (Nat.le_of_ble_eq_true rfl) ⟨Nat.le_of_ble_eq_true rfl, Nat.le_of_ble_eq_true rfl⟩ rfl dX5_leads_2 (fun r9 u9 H locs hw9 hP hD hS => ?_)
  subst hw9
  have hP : va_P G.1 CL (MW G mh md nr nc pL pG pB pk bf hi sv ch hs inp ty er wy wd rf lt ln th tr mv fo sp wr td) _ := hP
  have hD : va_D A (MW G mh md nr nc pL pG pB pk bf hi sv ch hs inp ty er wy wd rf lt ln th tr mv fo sp wr td) := hD
  refine n_imul hx hb dX5_leads_5 ?_
  refine lv_istore_n (lv' := [(3, .int (nI (2 * (nr + nc)))), (0, .ref mh), (1, .int (nI cq)), (2, .int (nI 1))]) hx hb dX5_leads_6 rfl hl (by decide) rfl (fun ls hl => ?_)
  refine lv_iconst (v := nI 1) hx hb dX5_leads_7 (by decide) ?_
  refine lv_istore (lv' := [(4, .int (nI 1)), (3, .int (nI (2 * (nr + nc)))), (0, .ref mh), (1, .int (nI cq)), (2, .int (nI 1))]) hx hb dX5_leads_8 hl (by decide) rfl (fun ls hl => ?_)
  refine lv_iconst (v := nI 1) hx hb dX5_leads_10 (by decide) ?_
  refine lv_istore (lv' := [(5, .int (nI 1)), (4, .int (nI 1)), (3, .int (nI (2 * (nr + nc)))), (0, .ref mh), (1, .int (nI cq)), (2, .int (nI 1))]) hx hb dX5_leads_11 hl (by decide) rfl (fun ls hl => ?_)
  refine lv_iload hx hb dX5_leads_13 (lv_at hl 0 rfl) ?_
  refine lv_iload_n hx hb dX5_leads_15 rfl (lv_at hl 5 rfl) ?_
  refine n_cmp_ge (tgt := 31) hx hb dX5_leads_16 (by decide) (by decide) (by decide) (fun c16 => ?_) (fun c16 => ?_)
  rotate_left
  · exact absurd c16 (by decide)
  refine lv_aload_n hx hb dX5_leads_31 rfl (lv_at hl 3 rfl) ?_
  refine lv_iload_n hx hb dX5_leads_32 rfl (lv_at hl 5 rfl) ?_
  refine n_if_ne (tgt := 40) hx hb dX5_leads_33 (by decide) (by decide) (fun c33 => ?_) (fun c33 => ?_)
  rotate_left
  · exact absurd c33 (by decide)
  refine lv_iload_n hx hb dX5_leads_40 rfl (lv_at hl 4 rfl) ?_
  refine lv_iload hx hb dX5_leads_41 (lv_at hl 1 rfl) ?_
  refine n_idiv hx hb (by omega) (by omega) (by omega) dX5_leads_43 ?_
  refine va_put (D := G.1) (ci := 4) (v := .int (nI (cq / 1))) (ty := .int) (C := RX5) (T := TX5) (N := 21) hx hb hts in_X5 tyX5 tyX5_ok nmX5 hown hK hP hD hS 0 rfl rfl 17 (by decide) (hts _ q1744) (fun _ h9 => h9) rfl (by decide +kernel) rfl rfl (Nat.le_of_ble_eq_true rfl) dX5_leads_44 (fun H locs hP hD hS => ?_)
  have hP : va_P G.1 CL (MW G mh md nr nc pL pG pB pk bf hi sv ch hs inp ty er wy wd rf lt ln th tr mv (nI (cq / 1)) sp wr td) _ := hP
  have hD : va_D A (MW G mh md nr nc pL pG pB pk bf hi sv ch hs inp ty er wy wd rf lt ln th tr mv (nI (cq / 1)) sp wr td) := hD
  refine lv_aload_n hx hb dX5_leads_47 rfl (lv_at hl 3 rfl) ?_
  refine callVv (As := []) (rest := []) (wc := (MW G mh md nr nc pL pG pB pk bf hi sv ch hs inp ty er wy wd rf lt ln th tr mv (nI (cq / 1)) sp wr td)) (wr := ([] : va_W)) ⟨hx, hb, hml, hown, hts⟩ (m_X5_tries l G mh md nr nc pL pG pB pk bf hi sv ch hs inp ty er wy wd rf lt ln th tr mv (nI (cq / 1)) sp wr td (by first | assumption | omega) (by first | assumption | omega)) (cwV 0 hts (lw_V q1891 q1893 qs52 q105 q1894) rfl rfl rfl (by decide +kernel) ⟨Nat.le_of_ble_eq_true rfl, Nat.le_of_ble_eq_true rfl⟩) hK hZ hA hP hD hS [0, 1, 2, 3, 4, 5, 6, 7, 8, 9] [] rfl rfl (by decide) (by decide) (by decide) 0 4 rfl rfl rfl hl.1 (Nat.le_of_ble_eq_true rfl) ⟨Nat.le_of_ble_eq_true rfl, Nat.le_of_ble_eq_true rfl⟩ rfl dX5_leads_48 (fun u9 H locs hw9 hP hD hS => ?_)
  obtain ⟨tr1_2, e9⟩ : ∃ z, z = u9 := ⟨_, rfl⟩
  subst e9
  have hw48 : ∀ q, q < nr * nc → tr1_2 q = pL q - 97 := hw9
  have hP : va_P G.1 CL (MW G mh md nr nc pL pG pB pk bf hi sv ch hs inp ty er wy wd rf lt ln th tr1_2 mv (nI (cq / 1)) sp wr td) _ := hP
  have hD : va_D A (MW G mh md nr nc pL pG pB pk bf hi sv ch hs inp ty er wy wd rf lt ln th tr1_2 mv (nI (cq / 1)) sp wr td) := hD
  refine lv_iconst (v := nI 1) hx hb dX5_leads_51 (by decide) ?_
  refine lv_istore (lv' := [(5, .int (nI 1)), (4, .int (nI 1)), (3, .int (nI (2 * (nr + nc)))), (0, .ref mh), (1, .int (nI cq)), (2, .int (nI 1))]) hx hb dX5_leads_52 hl (by decide) rfl (fun ls hl => ?_)
  refine lv_iconst (v := nI 0) hx hb dX5_leads_54 (by decide) ?_
  refine lv_istore (lv' := [(6, .int (nI 0)), (5, .int (nI 1)), (4, .int (nI 1)), (3, .int (nI (2 * (nr + nc)))), (0, .ref mh), (1, .int (nI cq)), (2, .int (nI 1))]) hx hb dX5_leads_55 hl (by decide) rfl (fun ls hl => ?_)
  refine lv_iload hx hb dX5_leads_57 (lv_at hl 0 rfl) ?_
  refine lv_iload_n hx hb dX5_leads_59 rfl (lv_at hl 6 rfl) ?_
  refine n_cmp_ge (tgt := 102) hx hb dX5_leads_60 (by decide) (by decide) (by decide) (fun c60 => ?_) (fun c60 => ?_)
  · exact absurd c60 (by decide)
  refine lv_iload hx hb dX5_leads_63 (lv_at hl 1 rfl) ?_
  refine n_if_eq (tgt := 102) hx hb dX5_leads_65 (by decide) (by decide) (fun c65 => ?_) (fun c65 => ?_)
  · exact absurd c65 (by decide)
  refine lv_iload_n hx hb dX5_leads_68 rfl (lv_at hl 5 rfl) ?_
  refine lv_iload hx hb dX5_leads_69 (lv_at hl 2 rfl) ?_
  refine n_idiv hx hb (by omega) (by omega) (by omega) dX5_leads_71 ?_
  refine lv_iload_n hx hb dX5_leads_72 rfl (lv_at hl 3 rfl) ?_
  refine n_irem hx hb (Nat.lt_of_le_of_lt (Nat.div_le_self _ _) (by omega)) (by omega) (by omega) dX5_leads_73 ?_
  refine lv_istore (lv' := [(7, .int (nI ((cq / 1) % (2 * (nr + nc))))), (6, .int (nI 0)), (5, .int (nI 1)), (4, .int (nI 1)), (3, .int (nI (2 * (nr + nc)))), (0, .ref mh), (1, .int (nI cq)), (2, .int (nI 1))]) hx hb dX5_leads_74 hl (by decide) rfl (fun ls hl => ?_)
  refine lv_aload_n hx hb dX5_leads_76 rfl (lv_at hl 5 rfl) ?_
  refine lv_iload hx hb dX5_leads_77 (lv_at hl 0 rfl) ?_
  refine callVi (As := [.int (nI ((cq / 1) % (2 * (nr + nc))))]) (rest := []) (wc := (MW G mh md nr nc pL pG pB pk bf hi sv ch hs inp ty er wy wd rf lt ln th tr1_2 mv (nI (cq / 1)) sp wr td)) (wr := ([] : va_W)) ⟨hx, hb, hml, hown, hts⟩ (m_X5_isOpen l G mh md nr nc pL pG pB pk bf hi sv ch hs inp ty er wy wd rf lt ln th tr1_2 mv (nI (cq / 1)) sp wr td ((cq / 1) % (2 * (nr + nc))) (Nat.lt_of_lt_of_le (Nat.mod_lt _ (by omega)) (by omega))) (cwV 1 hts (lw_V q1879 q1881 qs49 q105 q1882) rfl rfl rfl (by decide +kernel) ⟨Nat.le_of_ble_eq_true rfl, Nat.le_of_ble_eq_true rfl⟩) hK hZ hA hP hD hS [0, 1, 2, 3, 4, 5, 6, 7, 8, 9] [] rfl rfl (by decide) (by decide) (by decide) 0 4 rfl rfl rfl hl.1 (Nat.le_of_ble_eq_true rfl) ⟨Nat.le_of_ble_eq_true rfl, Nat.le_of_ble_eq_true rfl⟩ rfl dX5_leads_79 (fun r9 u9 H locs hw9 hP hD hS => ?_)
  subst hw9
  have hP : va_P G.1 CL (MW G mh md nr nc pL pG pB pk bf hi sv ch hs inp ty er wy wd rf lt ln th tr1_2 mv (nI (cq / 1)) sp wr td) _ := hP
  have hD : va_D A (MW G mh md nr nc pL pG pB pk bf hi sv ch hs inp ty er wy wd rf lt ln th tr1_2 mv (nI (cq / 1)) sp wr td) := hD
  refine lv_istore (lv' := [(5, .int (bI (!pB (((cq / 1) % (2 * (nr + nc))) / 2)))), (7, .int (nI ((cq / 1) % (2 * (nr + nc))))), (6, .int (nI 0)), (4, .int (nI 1)), (3, .int (nI (2 * (nr + nc)))), (0, .ref mh), (1, .int (nI cq)), (2, .int (nI 1))]) hx hb dX5_leads_82 hl (by decide) rfl (fun ls hl => ?_)
  refine lv_aload_n hx hb dX5_leads_84 rfl (lv_at hl 5 rfl) ?_
  refine lv_iload hx hb dX5_leads_85 (lv_at hl 1 rfl) ?_
  refine callVv (As := [.int (nI ((cq / 1) % (2 * (nr + nc))))]) (rest := []) (wc := (MW G mh md nr nc pL pG pB pk bf hi sv ch hs inp ty er wy wd rf lt ln th tr1_2 mv (nI (cq / 1)) sp wr td)) (wr := ([] : va_W)) ⟨hx, hb, hml, hown, hts⟩ (m_X5_turnsTried l G mh md nr nc pL pG pB pk bf hi sv ch hs inp ty er wy wd rf lt ln th tr1_2 mv (nI (cq / 1)) sp wr td ((cq / 1) % (2 * (nr + nc))) pL (by first | assumption | omega) (Nat.mod_lt _ (by omega)) (by first | exact hw87 | exact hw48)) (cwV 1 hts (lw_V q1903 q1905 qs55 q105 q1906) rfl rfl rfl (by decide +kernel) ⟨Nat.le_of_ble_eq_true rfl, Nat.le_of_ble_eq_true rfl⟩) hK hZ hA hP hD hS [0, 1, 2, 3, 4, 5, 6, 7, 8, 9] [] rfl rfl (by decide) (by decide) (by decide) 0 4 rfl rfl rfl hl.1 (Nat.le_of_ble_eq_true rfl) ⟨Nat.le_of_ble_eq_true rfl, Nat.le_of_ble_eq_true rfl⟩ rfl dX5_leads_87 (fun u9 H locs hw9 hP hD hS => ?_)
  obtain ⟨tr1_4, mv1_4⟩ := u9
  have hw87 : ∀ q, q < nr * nc → tr1_4 q = tn nr nc ((cq / 1) % (2 * (nr + nc))) pL q - 97 := hw9
  have hP : va_P G.1 CL (MW G mh md nr nc pL pG pB pk bf hi sv ch hs inp ty er wy wd rf lt ln th tr1_4 mv1_4 (nI (cq / 1)) sp wr td) _ := hP
  have hD : va_D A (MW G mh md nr nc pL pG pB pk bf hi sv ch hs inp ty er wy wd rf lt ln th tr1_4 mv1_4 (nI (cq / 1)) sp wr td) := hD
  refine lv_iload hx hb dX5_leads_90 (lv_at hl 3 rfl) ?_
  refine lv_iload_n hx hb dX5_leads_92 rfl (lv_at hl 4 rfl) ?_
  refine n_idiv hx hb (by omega) (by omega) (by omega) dX5_leads_93 ?_
  refine eq_i (y := nI 0) (congrArg nI (by first | exact Nat.mul_div_cancel _ (by omega) | exact Nat.div_self (by omega) | exact Nat.div_eq_of_lt (by omega))) ?_
  refine lv_istore (lv' := [(4, .int (nI 0)), (5, .int (bI (!pB (((cq / 1) % (2 * (nr + nc))) / 2)))), (7, .int (nI ((cq / 1) % (2 * (nr + nc))))), (6, .int (nI 0)), (3, .int (nI (2 * (nr + nc)))), (0, .ref mh), (1, .int (nI cq)), (2, .int (nI 1))]) hx hb dX5_leads_94 hl (by decide) rfl (fun ls hl => ?_)
  refine lv_iinc (v := nI 1) (lv' := [(6, .int (nI 1)), (4, .int (nI 0)), (5, .int (bI (!pB (((cq / 1) % (2 * (nr + nc))) / 2)))), (7, .int (nI ((cq / 1) % (2 * (nr + nc))))), (3, .int (nI (2 * (nr + nc)))), (0, .ref mh), (1, .int (nI cq)), (2, .int (nI 1))]) hx hb dX5_leads_96 hl (k := 3) rfl (by decide) (by decide) rfl (fun ls hl => ?_)
  refine lv_goto (tgt := 57) hx hb dX5_leads_99 (by decide) ?_
  refine lv_iload hx hb dX5_leads_57 (lv_at hl 0 rfl) ?_
  refine lv_iload_n hx hb dX5_leads_59 rfl (lv_at hl 7 rfl) ?_
  refine n_cmp_ge (tgt := 102) hx hb dX5_leads_60 (by decide) (by decide) (by decide) (fun c60_2 => ?_) (fun c60_2 => ?_)
  rotate_left
  · exact absurd c60_2 (by decide)
  refine lv_iload hx hb dX5_leads_102 (lv_at hl 2 rfl) ?_
  refine b_if_eq (tgt := 122) hx hb dX5_leads_104 (by decide) (fun c104 => ?_) (fun c104 => ?_)
  · skip
    refine lv_iconst (v := nI 0) hx hb dX5_leads_122 (by decide) ?_
    subst hQ
    exact ret_i hx hb hr hlk (⟨tr1_4, mv1_4⟩) (bI_0 (by rw [ldN_1]; first | (simp only [c104, Bool.false_and, Bool.and_false, Bool.true_and, Bool.and_true]; done) | (simp only [c104, decide_eq_true c115, Bool.false_and, Bool.and_false, Bool.true_and, Bool.and_true]; done) | (simp only [c104, decide_eq_false c115, Bool.false_and, Bool.and_false, Bool.true_and, Bool.and_true]; done))) hP hD hS rfl dX5_leads_123
  · skip
    refine lv_aload_n hx hb dX5_leads_107 rfl (lv_at hl 5 rfl) ?_
    refine callVi (As := []) (rest := []) (wc := (MW G mh md nr nc pL pG pB pk bf hi sv ch hs inp ty er wy wd rf lt ln th tr1_4 mv1_4 (nI (cq / 1)) sp wr td)) (wr := ([] : va_W)) ⟨hx, hb, hml, hown, hts⟩ (m_X5_homeTried l G mh md nr nc pL pG pB pk bf hi sv ch hs inp ty er wy wd rf lt ln th tr1_4 mv1_4 (nI (cq / 1)) sp wr td (tn nr nc ((cq / 1) % (2 * (nr + nc))) pL) (by first | assumption | omega) (by first | exact hw87 | exact hw48) (tn_rg hd (Nat.mod_lt _ (by omega)) hLR) (by first | assumption | omega)) (cwV 0 hts (lw_V q1895 q1897 qs53 q105 q1898) rfl rfl rfl (by decide +kernel) ⟨Nat.le_of_ble_eq_true rfl, Nat.le_of_ble_eq_true rfl⟩) hK hZ hA hP hD hS [0, 1, 2, 3, 4, 5, 6, 7, 8, 9] [] rfl rfl (by decide) (by decide) (by decide) 0 4 rfl rfl rfl hl.1 (Nat.le_of_ble_eq_true rfl) ⟨Nat.le_of_ble_eq_true rfl, Nat.le_of_ble_eq_true rfl⟩ rfl dX5_leads_108 (fun r9 u9 H locs hw9 hP hD hS => ?_)
    subst hw9
    have hP : va_P G.1 CL (MW G mh md nr nc pL pG pB pk bf hi sv ch hs inp ty er wy wd rf lt ln th tr1_4 mv1_4 (nI (cq / 1)) sp wr td) _ := hP
    have hD : va_D A (MW G mh md nr nc pL pG pB pk bf hi sv ch hs inp ty er wy wd rf lt ln th tr1_4 mv1_4 (nI (cq / 1)) sp wr td) := hD
    refine lv_aload_n hx hb dX5_leads_111 rfl (lv_at hl 5 rfl) ?_
    refine callVi (As := []) (rest := [.int (nI (hm nr nc (tn nr nc ((cq / 1) % (2 * (nr + nc))) pL) pG))]) (wc := (MW G mh md nr nc pL pG pB pk bf hi sv ch hs inp ty er wy wd rf lt ln th tr1_4 mv1_4 (nI (cq / 1)) sp wr td)) (wr := ([] : va_W)) ⟨hx, hb, hml, hown, hts⟩ (m_X5_places l G mh md nr nc pL pG pB pk bf hi sv ch hs inp ty er wy wd rf lt ln th tr1_4 mv1_4 (nI (cq / 1)) sp wr td ) (cwV 0 hts (lw_V q1817 q1819 qs38 q105 q1820) rfl rfl rfl (by decide +kernel) ⟨Nat.le_of_ble_eq_true rfl, Nat.le_of_ble_eq_true rfl⟩) hK hZ hA hP hD hS [0, 1, 2, 3, 4, 5, 6, 7, 8, 9] [] rfl rfl (by decide) (by decide) (by decide) 0 4 rfl rfl rfl hl.1 (Nat.le_of_ble_eq_true rfl) ⟨Nat.le_of_ble_eq_true rfl, Nat.le_of_ble_eq_true rfl⟩ rfl dX5_leads_112 (fun r9 u9 H locs hw9 hP hD hS => ?_)
    subst hw9
    have hP : va_P G.1 CL (MW G mh md nr nc pL pG pB pk bf hi sv ch hs inp ty er wy wd rf lt ln th tr1_4 mv1_4 (nI (cq / 1)) sp wr td) _ := hP
    have hD : va_D A (MW G mh md nr nc pL pG pB pk bf hi sv ch hs inp ty er wy wd rf lt ln th tr1_4 mv1_4 (nI (cq / 1)) sp wr td) := hD
    have hm9 := hm_le nr nc (tn nr nc ((cq / 1) % (2 * (nr + nc))) pL) pG
    refine n_cmp_ne (tgt := 122) hx hb dX5_leads_115 (by decide) (by omega) (by omega) (fun c115 => ?_) (fun c115 => ?_)
    · skip
      refine lv_iconst (v := nI 0) hx hb dX5_leads_122 (by decide) ?_
      subst hQ
      exact ret_i hx hb hr hlk (⟨tr1_4, mv1_4⟩) (bI_0 (by rw [ldN_1]; first | (simp only [c104, Bool.false_and, Bool.and_false, Bool.true_and, Bool.and_true]; done) | (simp only [c104, decide_eq_true c115, Bool.false_and, Bool.and_false, Bool.true_and, Bool.and_true]; done) | (simp only [c104, decide_eq_false c115, Bool.false_and, Bool.and_false, Bool.true_and, Bool.and_true]; done))) hP hD hS rfl dX5_leads_123
    · skip
      refine lv_iconst (v := nI 1) hx hb dX5_leads_118 (by decide) ?_
      refine lv_goto (tgt := 123) hx hb dX5_leads_119 (by decide) ?_
      subst hQ
      exact ret_i hx hb hr hlk (⟨tr1_4, mv1_4⟩) (bI_1 (by rw [ldN_1]; first | (simp only [c104, Bool.false_and, Bool.and_false, Bool.true_and, Bool.and_true]; done) | (simp only [c104, decide_eq_true c115, Bool.false_and, Bool.and_false, Bool.true_and, Bool.and_true]; done) | (simp only [c104, decide_eq_false c115, Bool.false_and, Bool.and_false, Bool.true_and, Bool.and_true]; done))) hP hD hS rfl dX5_leads_123
set_option maxHeartbeats 4000000 in
set_option maxRecDepth 100000 in
theorem m_X5_leads__2 (l : Launch) (G : GG) (mh : Nat) (md : Nat → Nat) (nr : Nat) (nc : Nat) (pL : Nat → Nat) (pG : Nat → Nat) (pB : Nat → Bool) (pk : Nat → Int32) (bf : Nat → Int32) (hi : Nat → Int32) (sv : Nat → Int32) (ch : Nat) (hs : Bool) (inp : Nat → Nat) (ty : Nat) (er : Int32) (wy : Int32) (wd : Int32) (rf : Bool) (lt : Nat → Nat) (ln : Nat) (th : Int32) (tr : Nat → Nat) (mv : Nat → Nat) (fo : Int32) (sp : Nat) (wr : Bool) (td : Nat → Int32) (cq : Nat) (hd : 2 ≤ nr ∧ nr ≤ 3 ∧ 2 ≤ nc ∧ nc ≤ 3) (hcd : cq < 30000) (hLR : ∀ q, q < nr * nc → 97 ≤ pL q ∧ pL q ≤ 108) (hKR : ∀ q, q < nr * nc → pG q = 46 ∨ (97 ≤ pG q ∧ pG q ≤ 108)) : MM l G yX5_leads cX5_leads 8 (some .boolean) ⟨2, 0, 0, 200⟩ [.ref mh, .int (nI cq), .int (nI 2)] (MW G mh md nr nc pL pG pB pk bf hi sv ch hs inp ty er wy wd rf lt ln th tr mv fo sp wr td) (Qi_ G (fun (r : Int32) (u : (Nat → Nat) × (Nat → Nat)) => r = bI (ldN nr nc pB pG cq 2 pL)) (fun (u : (Nat → Nat) × (Nat → Nat)) => (MW G mh md nr nc pL pG pB pk bf hi sv ch hs inp ty er wy wd rf lt ln th u.1 u.2 (nI (cq / (2 * (nr + nc)))) sp wr td))) := by
  refine MM.of (by decide) (Nat.le_of_ble_eq_true rfl) ?_
  intro p e s m args below meth cd A C hini hA hK hZ hP hD ls hl
  generalize hQ : MQ below ((Qi_ G (fun (r : Int32) (u : (Nat → Nat) × (Nat → Nat)) => r = bI (ldN nr nc pB pG cq 2 pL)) (fun (u : (Nat → Nat) × (Nat → Nat)) => (MW G mh md nr nc pL pG pB pk bf hi sv ch hs inp ty er wy wd rf lt ln th u.1 u.2 (nI (cq / (2 * (nr + nc)))) sp wr td))) A) args s (⟨2, 0, 0, 200⟩ : Room).cells (⟨2, 0, 0, 200⟩ : Room).slots A = Q
  obtain ⟨hx, hb, hr, hts, hown, hlk, hml⟩ := C
  have hown : s.vm.findClass RX5 = some m.cls := hown
  have hS : va_S A s.heap s.heap [] := va_S.rf
  have hl : lv_has ls 8 [(0, .ref mh), (1, .int (nI cq)), (2, .int (nI 2))] := hl
  have hmu := dm_mul hd
  have hq2 := T_sq hd
  refine lv_iconst (v := nI 2) hx hb dX5_leads_0 (by decide) ?_
  refine lv_aload_n hx hb dX5_leads_1 rfl (lv_at hl 0 rfl) ?_
  refine callVi (As := []) (rest := [.int (nI 2)]) (wc := (MW G mh md nr nc pL pG pB pk bf hi sv ch hs inp ty er wy wd rf lt ln th tr mv fo sp wr td)) (wr := ([] : va_W)) ⟨hx, hb, hml, hown, hts⟩ (m_X5_lines l G mh md nr nc pL pG pB pk bf hi sv ch hs inp ty er wy wd rf lt ln th tr mv fo sp wr td ) (cwV 0 hts (lw_V q1875 q1877 qs48 q105 q1878) rfl rfl rfl (by decide +kernel) ⟨Nat.le_of_ble_eq_true rfl, Nat.le_of_ble_eq_true rfl⟩) hK hZ hA hP hD hS [0, 1, 2, 3, 4, 5, 6, 7, 8, 9] [] rfl rfl (by decide) (by decide) (by decide) 0 4 rfl rfl rfl hl.1 (Nat.le_of_ble_eq_true rfl) ⟨Nat.le_of_ble_eq_true rfl, Nat.le_of_ble_eq_true rfl⟩ rfl dX5_leads_2 (fun r9 u9 H locs hw9 hP hD hS => ?_)
  subst hw9
  have hP : va_P G.1 CL (MW G mh md nr nc pL pG pB pk bf hi sv ch hs inp ty er wy wd rf lt ln th tr mv fo sp wr td) _ := hP
  have hD : va_D A (MW G mh md nr nc pL pG pB pk bf hi sv ch hs inp ty er wy wd rf lt ln th tr mv fo sp wr td) := hD
  refine n_imul hx hb dX5_leads_5 ?_
  refine lv_istore_n (lv' := [(3, .int (nI (2 * (nr + nc)))), (0, .ref mh), (1, .int (nI cq)), (2, .int (nI 2))]) hx hb dX5_leads_6 rfl hl (by decide) rfl (fun ls hl => ?_)
  refine lv_iconst (v := nI 1) hx hb dX5_leads_7 (by decide) ?_
  refine lv_istore (lv' := [(4, .int (nI 1)), (3, .int (nI (2 * (nr + nc)))), (0, .ref mh), (1, .int (nI cq)), (2, .int (nI 2))]) hx hb dX5_leads_8 hl (by decide) rfl (fun ls hl => ?_)
  refine lv_iconst (v := nI 1) hx hb dX5_leads_10 (by decide) ?_
  refine lv_istore (lv' := [(5, .int (nI 1)), (4, .int (nI 1)), (3, .int (nI (2 * (nr + nc)))), (0, .ref mh), (1, .int (nI cq)), (2, .int (nI 2))]) hx hb dX5_leads_11 hl (by decide) rfl (fun ls hl => ?_)
  refine lv_iload hx hb dX5_leads_13 (lv_at hl 0 rfl) ?_
  refine lv_iload_n hx hb dX5_leads_15 rfl (lv_at hl 5 rfl) ?_
  refine n_cmp_ge (tgt := 31) hx hb dX5_leads_16 (by decide) (by decide) (by decide) (fun c16 => ?_) (fun c16 => ?_)
  · exact absurd c16 (by decide)
  refine lv_iload hx hb dX5_leads_19 (lv_at hl 1 rfl) ?_
  refine lv_iload_n hx hb dX5_leads_21 rfl (lv_at hl 2 rfl) ?_
  refine n_imul hx hb dX5_leads_22 ?_
  refine eq_i (y := nI (2 * (nr + nc))) (congrArg nI (by first | rfl | exact Nat.one_mul _ | (rw [Nat.one_mul]))) ?_
  refine lv_istore (lv' := [(4, .int (nI (2 * (nr + nc)))), (5, .int (nI 1)), (3, .int (nI (2 * (nr + nc)))), (0, .ref mh), (1, .int (nI cq)), (2, .int (nI 2))]) hx hb dX5_leads_23 hl (by decide) rfl (fun ls hl => ?_)
  refine lv_iinc (v := nI 2) (lv' := [(5, .int (nI 2)), (4, .int (nI (2 * (nr + nc)))), (3, .int (nI (2 * (nr + nc)))), (0, .ref mh), (1, .int (nI cq)), (2, .int (nI 2))]) hx hb dX5_leads_25 hl (k := 1) rfl (by decide) (by decide) rfl (fun ls hl => ?_)
  refine lv_goto (tgt := 13) hx hb dX5_leads_28 (by decide) ?_
  refine lv_iload hx hb dX5_leads_13 (lv_at hl 0 rfl) ?_
  refine lv_iload_n hx hb dX5_leads_15 rfl (lv_at hl 5 rfl) ?_
  refine n_cmp_ge (tgt := 31) hx hb dX5_leads_16 (by decide) (by decide) (by decide) (fun c16_2 => ?_) (fun c16_2 => ?_)
  rotate_left
  · exact absurd c16_2 (by decide)
  refine lv_aload_n hx hb dX5_leads_31 rfl (lv_at hl 3 rfl) ?_
  refine lv_iload_n hx hb dX5_leads_32 rfl (lv_at hl 5 rfl) ?_
  refine n_if_ne (tgt := 40) hx hb dX5_leads_33 (by decide) (by decide) (fun c33 => ?_) (fun c33 => ?_)
  rotate_left
  · exact absurd c33 (by decide)
  refine lv_iload_n hx hb dX5_leads_40 rfl (lv_at hl 4 rfl) ?_
  refine lv_iload hx hb dX5_leads_41 (lv_at hl 1 rfl) ?_
  refine n_idiv hx hb (by omega) (by omega) (by omega) dX5_leads_43 ?_
  refine va_put (D := G.1) (ci := 4) (v := .int (nI (cq / (2 * (nr + nc))))) (ty := .int) (C := RX5) (T := TX5) (N := 21) hx hb hts in_X5 tyX5 tyX5_ok nmX5 hown hK hP hD hS 0 rfl rfl 17 (by decide) (hts _ q1744) (fun _ h9 => h9) rfl (by decide +kernel) rfl rfl (Nat.le_of_ble_eq_true rfl) dX5_leads_44 (fun H locs hP hD hS => ?_)
  have hP : va_P G.1 CL (MW G mh md nr nc pL pG pB pk bf hi sv ch hs inp ty er wy wd rf lt ln th tr mv (nI (cq / (2 * (nr + nc)))) sp wr td) _ := hP
  have hD : va_D A (MW G mh md nr nc pL pG pB pk bf hi sv ch hs inp ty er wy wd rf lt ln th tr mv (nI (cq / (2 * (nr + nc)))) sp wr td) := hD
  refine lv_aload_n hx hb dX5_leads_47 rfl (lv_at hl 3 rfl) ?_
  refine callVv (As := []) (rest := []) (wc := (MW G mh md nr nc pL pG pB pk bf hi sv ch hs inp ty er wy wd rf lt ln th tr mv (nI (cq / (2 * (nr + nc)))) sp wr td)) (wr := ([] : va_W)) ⟨hx, hb, hml, hown, hts⟩ (m_X5_tries l G mh md nr nc pL pG pB pk bf hi sv ch hs inp ty er wy wd rf lt ln th tr mv (nI (cq / (2 * (nr + nc)))) sp wr td (by first | assumption | omega) (by first | assumption | omega)) (cwV 0 hts (lw_V q1891 q1893 qs52 q105 q1894) rfl rfl rfl (by decide +kernel) ⟨Nat.le_of_ble_eq_true rfl, Nat.le_of_ble_eq_true rfl⟩) hK hZ hA hP hD hS [0, 1, 2, 3, 4, 5, 6, 7, 8, 9] [] rfl rfl (by decide) (by decide) (by decide) 0 4 rfl rfl rfl hl.1 (Nat.le_of_ble_eq_true rfl) ⟨Nat.le_of_ble_eq_true rfl, Nat.le_of_ble_eq_true rfl⟩ rfl dX5_leads_48 (fun u9 H locs hw9 hP hD hS => ?_)
  obtain ⟨tr1_2, e9⟩ : ∃ z, z = u9 := ⟨_, rfl⟩
  subst e9
  have hw48 : ∀ q, q < nr * nc → tr1_2 q = pL q - 97 := hw9
  have hP : va_P G.1 CL (MW G mh md nr nc pL pG pB pk bf hi sv ch hs inp ty er wy wd rf lt ln th tr1_2 mv (nI (cq / (2 * (nr + nc)))) sp wr td) _ := hP
  have hD : va_D A (MW G mh md nr nc pL pG pB pk bf hi sv ch hs inp ty er wy wd rf lt ln th tr1_2 mv (nI (cq / (2 * (nr + nc)))) sp wr td) := hD
  refine lv_iconst (v := nI 1) hx hb dX5_leads_51 (by decide) ?_
  refine lv_istore (lv' := [(5, .int (nI 1)), (4, .int (nI (2 * (nr + nc)))), (3, .int (nI (2 * (nr + nc)))), (0, .ref mh), (1, .int (nI cq)), (2, .int (nI 2))]) hx hb dX5_leads_52 hl (by decide) rfl (fun ls hl => ?_)
  refine lv_iconst (v := nI 0) hx hb dX5_leads_54 (by decide) ?_
  refine lv_istore (lv' := [(6, .int (nI 0)), (5, .int (nI 1)), (4, .int (nI (2 * (nr + nc)))), (3, .int (nI (2 * (nr + nc)))), (0, .ref mh), (1, .int (nI cq)), (2, .int (nI 2))]) hx hb dX5_leads_55 hl (by decide) rfl (fun ls hl => ?_)
  refine lv_iload hx hb dX5_leads_57 (lv_at hl 0 rfl) ?_
  refine lv_iload_n hx hb dX5_leads_59 rfl (lv_at hl 6 rfl) ?_
  refine n_cmp_ge (tgt := 102) hx hb dX5_leads_60 (by decide) (by decide) (by decide) (fun c60 => ?_) (fun c60 => ?_)
  · exact absurd c60 (by decide)
  refine lv_iload hx hb dX5_leads_63 (lv_at hl 1 rfl) ?_
  refine n_if_eq (tgt := 102) hx hb dX5_leads_65 (by decide) (by decide) (fun c65 => ?_) (fun c65 => ?_)
  · exact absurd c65 (by decide)
  refine lv_iload_n hx hb dX5_leads_68 rfl (lv_at hl 5 rfl) ?_
  refine lv_iload hx hb dX5_leads_69 (lv_at hl 2 rfl) ?_
  refine n_idiv hx hb (by omega) (by omega) (by omega) dX5_leads_71 ?_
  refine lv_iload_n hx hb dX5_leads_72 rfl (lv_at hl 3 rfl) ?_
  refine n_irem hx hb (Nat.lt_of_le_of_lt (Nat.div_le_self _ _) (by omega)) (by omega) (by omega) dX5_leads_73 ?_
  refine lv_istore (lv' := [(7, .int (nI ((cq / (2 * (nr + nc))) % (2 * (nr + nc))))), (6, .int (nI 0)), (5, .int (nI 1)), (4, .int (nI (2 * (nr + nc)))), (3, .int (nI (2 * (nr + nc)))), (0, .ref mh), (1, .int (nI cq)), (2, .int (nI 2))]) hx hb dX5_leads_74 hl (by decide) rfl (fun ls hl => ?_)
  refine lv_aload_n hx hb dX5_leads_76 rfl (lv_at hl 5 rfl) ?_
  refine lv_iload hx hb dX5_leads_77 (lv_at hl 0 rfl) ?_
  refine callVi (As := [.int (nI ((cq / (2 * (nr + nc))) % (2 * (nr + nc))))]) (rest := []) (wc := (MW G mh md nr nc pL pG pB pk bf hi sv ch hs inp ty er wy wd rf lt ln th tr1_2 mv (nI (cq / (2 * (nr + nc)))) sp wr td)) (wr := ([] : va_W)) ⟨hx, hb, hml, hown, hts⟩ (m_X5_isOpen l G mh md nr nc pL pG pB pk bf hi sv ch hs inp ty er wy wd rf lt ln th tr1_2 mv (nI (cq / (2 * (nr + nc)))) sp wr td ((cq / (2 * (nr + nc))) % (2 * (nr + nc))) (Nat.lt_of_lt_of_le (Nat.mod_lt _ (by omega)) (by omega))) (cwV 1 hts (lw_V q1879 q1881 qs49 q105 q1882) rfl rfl rfl (by decide +kernel) ⟨Nat.le_of_ble_eq_true rfl, Nat.le_of_ble_eq_true rfl⟩) hK hZ hA hP hD hS [0, 1, 2, 3, 4, 5, 6, 7, 8, 9] [] rfl rfl (by decide) (by decide) (by decide) 0 4 rfl rfl rfl hl.1 (Nat.le_of_ble_eq_true rfl) ⟨Nat.le_of_ble_eq_true rfl, Nat.le_of_ble_eq_true rfl⟩ rfl dX5_leads_79 (fun r9 u9 H locs hw9 hP hD hS => ?_)
  subst hw9
  have hP : va_P G.1 CL (MW G mh md nr nc pL pG pB pk bf hi sv ch hs inp ty er wy wd rf lt ln th tr1_2 mv (nI (cq / (2 * (nr + nc)))) sp wr td) _ := hP
  have hD : va_D A (MW G mh md nr nc pL pG pB pk bf hi sv ch hs inp ty er wy wd rf lt ln th tr1_2 mv (nI (cq / (2 * (nr + nc)))) sp wr td) := hD
  refine lv_istore (lv' := [(5, .int (bI (!pB (((cq / (2 * (nr + nc))) % (2 * (nr + nc))) / 2)))), (7, .int (nI ((cq / (2 * (nr + nc))) % (2 * (nr + nc))))), (6, .int (nI 0)), (4, .int (nI (2 * (nr + nc)))), (3, .int (nI (2 * (nr + nc)))), (0, .ref mh), (1, .int (nI cq)), (2, .int (nI 2))]) hx hb dX5_leads_82 hl (by decide) rfl (fun ls hl => ?_)
  refine lv_aload_n hx hb dX5_leads_84 rfl (lv_at hl 5 rfl) ?_
  refine lv_iload hx hb dX5_leads_85 (lv_at hl 1 rfl) ?_
  refine callVv (As := [.int (nI ((cq / (2 * (nr + nc))) % (2 * (nr + nc))))]) (rest := []) (wc := (MW G mh md nr nc pL pG pB pk bf hi sv ch hs inp ty er wy wd rf lt ln th tr1_2 mv (nI (cq / (2 * (nr + nc)))) sp wr td)) (wr := ([] : va_W)) ⟨hx, hb, hml, hown, hts⟩ (m_X5_turnsTried l G mh md nr nc pL pG pB pk bf hi sv ch hs inp ty er wy wd rf lt ln th tr1_2 mv (nI (cq / (2 * (nr + nc)))) sp wr td ((cq / (2 * (nr + nc))) % (2 * (nr + nc))) pL (by first | assumption | omega) (Nat.mod_lt _ (by omega)) (by first | exact hw87 | exact hw48)) (cwV 1 hts (lw_V q1903 q1905 qs55 q105 q1906) rfl rfl rfl (by decide +kernel) ⟨Nat.le_of_ble_eq_true rfl, Nat.le_of_ble_eq_true rfl⟩) hK hZ hA hP hD hS [0, 1, 2, 3, 4, 5, 6, 7, 8, 9] [] rfl rfl (by decide) (by decide) (by decide) 0 4 rfl rfl rfl hl.1 (Nat.le_of_ble_eq_true rfl) ⟨Nat.le_of_ble_eq_true rfl, Nat.le_of_ble_eq_true rfl⟩ rfl dX5_leads_87 (fun u9 H locs hw9 hP hD hS => ?_)
  obtain ⟨tr1_4, mv1_4⟩ := u9
  have hw87 : ∀ q, q < nr * nc → tr1_4 q = tn nr nc ((cq / (2 * (nr + nc))) % (2 * (nr + nc))) pL q - 97 := hw9
  have hP : va_P G.1 CL (MW G mh md nr nc pL pG pB pk bf hi sv ch hs inp ty er wy wd rf lt ln th tr1_4 mv1_4 (nI (cq / (2 * (nr + nc)))) sp wr td) _ := hP
  have hD : va_D A (MW G mh md nr nc pL pG pB pk bf hi sv ch hs inp ty er wy wd rf lt ln th tr1_4 mv1_4 (nI (cq / (2 * (nr + nc)))) sp wr td) := hD
  refine lv_iload hx hb dX5_leads_90 (lv_at hl 3 rfl) ?_
  refine lv_iload_n hx hb dX5_leads_92 rfl (lv_at hl 4 rfl) ?_
  refine n_idiv hx hb (by omega) (by omega) (by omega) dX5_leads_93 ?_
  refine eq_i (y := nI 1) (congrArg nI (by first | exact Nat.mul_div_cancel _ (by omega) | exact Nat.div_self (by omega) | exact Nat.div_eq_of_lt (by omega))) ?_
  refine lv_istore (lv' := [(4, .int (nI 1)), (5, .int (bI (!pB (((cq / (2 * (nr + nc))) % (2 * (nr + nc))) / 2)))), (7, .int (nI ((cq / (2 * (nr + nc))) % (2 * (nr + nc))))), (6, .int (nI 0)), (3, .int (nI (2 * (nr + nc)))), (0, .ref mh), (1, .int (nI cq)), (2, .int (nI 2))]) hx hb dX5_leads_94 hl (by decide) rfl (fun ls hl => ?_)
  refine lv_iinc (v := nI 1) (lv' := [(6, .int (nI 1)), (4, .int (nI 1)), (5, .int (bI (!pB (((cq / (2 * (nr + nc))) % (2 * (nr + nc))) / 2)))), (7, .int (nI ((cq / (2 * (nr + nc))) % (2 * (nr + nc))))), (3, .int (nI (2 * (nr + nc)))), (0, .ref mh), (1, .int (nI cq)), (2, .int (nI 2))]) hx hb dX5_leads_96 hl (k := 3) rfl (by decide) (by decide) rfl (fun ls hl => ?_)
  refine lv_goto (tgt := 57) hx hb dX5_leads_99 (by decide) ?_
  refine lv_iload hx hb dX5_leads_57 (lv_at hl 0 rfl) ?_
  refine lv_iload_n hx hb dX5_leads_59 rfl (lv_at hl 7 rfl) ?_
  refine n_cmp_ge (tgt := 102) hx hb dX5_leads_60 (by decide) (by decide) (by decide) (fun c60_2 => ?_) (fun c60_2 => ?_)
  · exact absurd c60_2 (by decide)
  refine lv_iload hx hb dX5_leads_63 (lv_at hl 2 rfl) ?_
  refine b_if_eq (tgt := 102) hx hb dX5_leads_65 (by decide) (fun c65_2 => ?_) (fun c65_2 => ?_)
  · skip
    refine lv_iload hx hb dX5_leads_102 (lv_at hl 2 rfl) ?_
    refine b_if_eq (tgt := 122) hx hb dX5_leads_104 (by decide) (fun c104 => ?_) (fun c104 => ?_)
    · skip
      refine lv_iconst (v := nI 0) hx hb dX5_leads_122 (by decide) ?_
      subst hQ
      exact ret_i hx hb hr hlk (⟨tr1_4, mv1_4⟩) (bI_0 (by rw [ldN_2]; first | (simp only [c65_2, Bool.false_and, Bool.and_false, Bool.true_and, Bool.and_true]; done) | (simp only [c65_2, c104, Bool.false_and, Bool.and_false, Bool.true_and, Bool.and_true]; done) | (simp only [c65_2, c104, decide_eq_true c115, Bool.false_and, Bool.and_false, Bool.true_and, Bool.and_true]; done) | (simp only [c65_2, c104, decide_eq_false c115, Bool.false_and, Bool.and_false, Bool.true_and, Bool.and_true]; done) | (rw [c65_2] at c104; exact absurd c104 (by decide)))) hP hD hS rfl dX5_leads_123
    · skip
      refine lv_aload_n hx hb dX5_leads_107 rfl (lv_at hl 5 rfl) ?_
      refine callVi (As := []) (rest := []) (wc := (MW G mh md nr nc pL pG pB pk bf hi sv ch hs inp ty er wy wd rf lt ln th tr1_4 mv1_4 (nI (cq / (2 * (nr + nc)))) sp wr td)) (wr := ([] : va_W)) ⟨hx, hb, hml, hown, hts⟩ (m_X5_homeTried l G mh md nr nc pL pG pB pk bf hi sv ch hs inp ty er wy wd rf lt ln th tr1_4 mv1_4 (nI (cq / (2 * (nr + nc)))) sp wr td (tn nr nc ((cq / (2 * (nr + nc))) % (2 * (nr + nc))) pL) (by first | assumption | omega) (by first | exact hw87 | exact hw48) (tn_rg hd (Nat.mod_lt _ (by omega)) hLR) (by first | assumption | omega)) (cwV 0 hts (lw_V q1895 q1897 qs53 q105 q1898) rfl rfl rfl (by decide +kernel) ⟨Nat.le_of_ble_eq_true rfl, Nat.le_of_ble_eq_true rfl⟩) hK hZ hA hP hD hS [0, 1, 2, 3, 4, 5, 6, 7, 8, 9] [] rfl rfl (by decide) (by decide) (by decide) 0 4 rfl rfl rfl hl.1 (Nat.le_of_ble_eq_true rfl) ⟨Nat.le_of_ble_eq_true rfl, Nat.le_of_ble_eq_true rfl⟩ rfl dX5_leads_108 (fun r9 u9 H locs hw9 hP hD hS => ?_)
      subst hw9
      have hP : va_P G.1 CL (MW G mh md nr nc pL pG pB pk bf hi sv ch hs inp ty er wy wd rf lt ln th tr1_4 mv1_4 (nI (cq / (2 * (nr + nc)))) sp wr td) _ := hP
      have hD : va_D A (MW G mh md nr nc pL pG pB pk bf hi sv ch hs inp ty er wy wd rf lt ln th tr1_4 mv1_4 (nI (cq / (2 * (nr + nc)))) sp wr td) := hD
      refine lv_aload_n hx hb dX5_leads_111 rfl (lv_at hl 5 rfl) ?_
      refine callVi (As := []) (rest := [.int (nI (hm nr nc (tn nr nc ((cq / (2 * (nr + nc))) % (2 * (nr + nc))) pL) pG))]) (wc := (MW G mh md nr nc pL pG pB pk bf hi sv ch hs inp ty er wy wd rf lt ln th tr1_4 mv1_4 (nI (cq / (2 * (nr + nc)))) sp wr td)) (wr := ([] : va_W)) ⟨hx, hb, hml, hown, hts⟩ (m_X5_places l G mh md nr nc pL pG pB pk bf hi sv ch hs inp ty er wy wd rf lt ln th tr1_4 mv1_4 (nI (cq / (2 * (nr + nc)))) sp wr td ) (cwV 0 hts (lw_V q1817 q1819 qs38 q105 q1820) rfl rfl rfl (by decide +kernel) ⟨Nat.le_of_ble_eq_true rfl, Nat.le_of_ble_eq_true rfl⟩) hK hZ hA hP hD hS [0, 1, 2, 3, 4, 5, 6, 7, 8, 9] [] rfl rfl (by decide) (by decide) (by decide) 0 4 rfl rfl rfl hl.1 (Nat.le_of_ble_eq_true rfl) ⟨Nat.le_of_ble_eq_true rfl, Nat.le_of_ble_eq_true rfl⟩ rfl dX5_leads_112 (fun r9 u9 H locs hw9 hP hD hS => ?_)
      subst hw9
      have hP : va_P G.1 CL (MW G mh md nr nc pL pG pB pk bf hi sv ch hs inp ty er wy wd rf lt ln th tr1_4 mv1_4 (nI (cq / (2 * (nr + nc)))) sp wr td) _ := hP
      have hD : va_D A (MW G mh md nr nc pL pG pB pk bf hi sv ch hs inp ty er wy wd rf lt ln th tr1_4 mv1_4 (nI (cq / (2 * (nr + nc)))) sp wr td) := hD
      have hm9 := hm_le nr nc (tn nr nc ((cq / (2 * (nr + nc))) % (2 * (nr + nc))) pL) pG
      refine n_cmp_ne (tgt := 122) hx hb dX5_leads_115 (by decide) (by omega) (by omega) (fun c115 => ?_) (fun c115 => ?_)
      · skip
        refine lv_iconst (v := nI 0) hx hb dX5_leads_122 (by decide) ?_
        subst hQ
        exact ret_i hx hb hr hlk (⟨tr1_4, mv1_4⟩) (bI_0 (by rw [ldN_2]; first | (simp only [c65_2, Bool.false_and, Bool.and_false, Bool.true_and, Bool.and_true]; done) | (simp only [c65_2, c104, Bool.false_and, Bool.and_false, Bool.true_and, Bool.and_true]; done) | (simp only [c65_2, c104, decide_eq_true c115, Bool.false_and, Bool.and_false, Bool.true_and, Bool.and_true]; done) | (simp only [c65_2, c104, decide_eq_false c115, Bool.false_and, Bool.and_false, Bool.true_and, Bool.and_true]; done) | (rw [c65_2] at c104; exact absurd c104 (by decide)))) hP hD hS rfl dX5_leads_123
      · skip
        refine lv_iconst (v := nI 1) hx hb dX5_leads_118 (by decide) ?_
        refine lv_goto (tgt := 123) hx hb dX5_leads_119 (by decide) ?_
        subst hQ
        exact ret_i hx hb hr hlk (⟨tr1_4, mv1_4⟩) (bI_1 (by rw [ldN_2]; first | (simp only [c65_2, Bool.false_and, Bool.and_false, Bool.true_and, Bool.and_true]; done) | (simp only [c65_2, c104, Bool.false_and, Bool.and_false, Bool.true_and, Bool.and_true]; done) | (simp only [c65_2, c104, decide_eq_true c115, Bool.false_and, Bool.and_false, Bool.true_and, Bool.and_true]; done) | (simp only [c65_2, c104, decide_eq_false c115, Bool.false_and, Bool.and_false, Bool.true_and, Bool.and_true]; done) | (rw [c65_2] at c104; exact absurd c104 (by decide)))) hP hD hS rfl dX5_leads_123
  · skip
    refine lv_iload_n hx hb dX5_leads_68 rfl (lv_at hl 6 rfl) ?_
    refine lv_iload hx hb dX5_leads_69 (lv_at hl 1 rfl) ?_
    refine n_idiv hx hb (by omega) (by omega) (by omega) dX5_leads_71 ?_
    refine lv_iload_n hx hb dX5_leads_72 rfl (lv_at hl 4 rfl) ?_
    refine n_irem hx hb (Nat.lt_of_le_of_lt (Nat.div_le_self _ _) (by omega)) (by omega) (by omega) dX5_leads_73 ?_
    refine lv_istore (lv' := [(7, .int (nI ((cq / 1) % (2 * (nr + nc))))), (6, .int (nI 1)), (4, .int (nI 1)), (5, .int (bI (!pB (((cq / (2 * (nr + nc))) % (2 * (nr + nc))) / 2)))), (3, .int (nI (2 * (nr + nc)))), (0, .ref mh), (1, .int (nI cq)), (2, .int (nI 2))]) hx hb dX5_leads_74 hl (by decide) rfl (fun ls hl => ?_)
    refine lv_aload_n hx hb dX5_leads_76 rfl (lv_at hl 5 rfl) ?_
    refine lv_iload hx hb dX5_leads_77 (lv_at hl 0 rfl) ?_
    refine callVi (As := [.int (nI ((cq / 1) % (2 * (nr + nc))))]) (rest := []) (wc := (MW G mh md nr nc pL pG pB pk bf hi sv ch hs inp ty er wy wd rf lt ln th tr1_4 mv1_4 (nI (cq / (2 * (nr + nc)))) sp wr td)) (wr := ([] : va_W)) ⟨hx, hb, hml, hown, hts⟩ (m_X5_isOpen l G mh md nr nc pL pG pB pk bf hi sv ch hs inp ty er wy wd rf lt ln th tr1_4 mv1_4 (nI (cq / (2 * (nr + nc)))) sp wr td ((cq / 1) % (2 * (nr + nc))) (Nat.lt_of_lt_of_le (Nat.mod_lt _ (by omega)) (by omega))) (cwV 1 hts (lw_V q1879 q1881 qs49 q105 q1882) rfl rfl rfl (by decide +kernel) ⟨Nat.le_of_ble_eq_true rfl, Nat.le_of_ble_eq_true rfl⟩) hK hZ hA hP hD hS [0, 1, 2, 3, 4, 5, 6, 7, 8, 9] [] rfl rfl (by decide) (by decide) (by decide) 0 4 rfl rfl rfl hl.1 (Nat.le_of_ble_eq_true rfl) ⟨Nat.le_of_ble_eq_true rfl, Nat.le_of_ble_eq_true rfl⟩ rfl dX5_leads_79 (fun r9 u9 H locs hw9 hP hD hS => ?_)
    subst hw9
    have hP : va_P G.1 CL (MW G mh md nr nc pL pG pB pk bf hi sv ch hs inp ty er wy wd rf lt ln th tr1_4 mv1_4 (nI (cq / (2 * (nr + nc)))) sp wr td) _ := hP
    have hD : va_D A (MW G mh md nr nc pL pG pB pk bf hi sv ch hs inp ty er wy wd rf lt ln th tr1_4 mv1_4 (nI (cq / (2 * (nr + nc)))) sp wr td) := hD
    refine lv_istore (lv' := [(5, .int (bI (!pB (((cq / 1) % (2 * (nr + nc))) / 2)))), (7, .int (nI ((cq / 1) % (2 * (nr + nc))))), (6, .int (nI 1)), (4, .int (nI 1)), (3, .int (nI (2 * (nr + nc)))), (0, .ref mh), (1, .int (nI cq)), (2, .int (nI 2))]) hx hb dX5_leads_82 hl (by decide) rfl (fun ls hl => ?_)
    refine lv_aload_n hx hb dX5_leads_84 rfl (lv_at hl 5 rfl) ?_
    refine lv_iload hx hb dX5_leads_85 (lv_at hl 1 rfl) ?_
    refine callVv (As := [.int (nI ((cq / 1) % (2 * (nr + nc))))]) (rest := []) (wc := (MW G mh md nr nc pL pG pB pk bf hi sv ch hs inp ty er wy wd rf lt ln th tr1_4 mv1_4 (nI (cq / (2 * (nr + nc)))) sp wr td)) (wr := ([] : va_W)) ⟨hx, hb, hml, hown, hts⟩ (m_X5_turnsTried l G mh md nr nc pL pG pB pk bf hi sv ch hs inp ty er wy wd rf lt ln th tr1_4 mv1_4 (nI (cq / (2 * (nr + nc)))) sp wr td ((cq / 1) % (2 * (nr + nc))) (tn nr nc ((cq / (2 * (nr + nc))) % (2 * (nr + nc))) pL) (by first | assumption | omega) (Nat.mod_lt _ (by omega)) (by first | exact hw87 | exact hw48)) (cwV 1 hts (lw_V q1903 q1905 qs55 q105 q1906) rfl rfl rfl (by decide +kernel) ⟨Nat.le_of_ble_eq_true rfl, Nat.le_of_ble_eq_true rfl⟩) hK hZ hA hP hD hS [0, 1, 2, 3, 4, 5, 6, 7, 8, 9] [] rfl rfl (by decide) (by decide) (by decide) 0 4 rfl rfl rfl hl.1 (Nat.le_of_ble_eq_true rfl) ⟨Nat.le_of_ble_eq_true rfl, Nat.le_of_ble_eq_true rfl⟩ rfl dX5_leads_87 (fun u9 H locs hw9 hP hD hS => ?_)
    obtain ⟨tr1_8, mv1_8⟩ := u9
    have hw87 : ∀ q, q < nr * nc → tr1_8 q = tn nr nc ((cq / 1) % (2 * (nr + nc))) (tn nr nc ((cq / (2 * (nr + nc))) % (2 * (nr + nc))) pL) q - 97 := hw9
    have hP : va_P G.1 CL (MW G mh md nr nc pL pG pB pk bf hi sv ch hs inp ty er wy wd rf lt ln th tr1_8 mv1_8 (nI (cq / (2 * (nr + nc)))) sp wr td) _ := hP
    have hD : va_D A (MW G mh md nr nc pL pG pB pk bf hi sv ch hs inp ty er wy wd rf lt ln th tr1_8 mv1_8 (nI (cq / (2 * (nr + nc)))) sp wr td) := hD
    refine lv_iload hx hb dX5_leads_90 (lv_at hl 3 rfl) ?_
    refine lv_iload_n hx hb dX5_leads_92 rfl (lv_at hl 4 rfl) ?_
    refine n_idiv hx hb (by omega) (by omega) (by omega) dX5_leads_93 ?_
    refine eq_i (y := nI 0) (congrArg nI (by first | exact Nat.mul_div_cancel _ (by omega) | exact Nat.div_self (by omega) | exact Nat.div_eq_of_lt (by omega))) ?_
    refine lv_istore (lv' := [(4, .int (nI 0)), (5, .int (bI (!pB (((cq / 1) % (2 * (nr + nc))) / 2)))), (7, .int (nI ((cq / 1) % (2 * (nr + nc))))), (6, .int (nI 1)), (3, .int (nI (2 * (nr + nc)))), (0, .ref mh), (1, .int (nI cq)), (2, .int (nI 2))]) hx hb dX5_leads_94 hl (by decide) rfl (fun ls hl => ?_)
    refine lv_iinc (v := nI 2) (lv' := [(6, .int (nI 2)), (4, .int (nI 0)), (5, .int (bI (!pB (((cq / 1) % (2 * (nr + nc))) / 2)))), (7, .int (nI ((cq / 1) % (2 * (nr + nc))))), (3, .int (nI (2 * (nr + nc)))), (0, .ref mh), (1, .int (nI cq)), (2, .int (nI 2))]) hx hb dX5_leads_96 hl (k := 3) rfl (by decide) (by decide) rfl (fun ls hl => ?_)
    refine lv_goto (tgt := 57) hx hb dX5_leads_99 (by decide) ?_
    refine lv_iload hx hb dX5_leads_57 (lv_at hl 0 rfl) ?_
    refine lv_iload_n hx hb dX5_leads_59 rfl (lv_at hl 7 rfl) ?_
    refine n_cmp_ge (tgt := 102) hx hb dX5_leads_60 (by decide) (by decide) (by decide) (fun c60_3 => ?_) (fun c60_3 => ?_)
    rotate_left
    · exact absurd c60_3 (by decide)
    refine lv_iload hx hb dX5_leads_102 (lv_at hl 2 rfl) ?_
    refine b_if_eq (tgt := 122) hx hb dX5_leads_104 (by decide) (fun c104 => ?_) (fun c104 => ?_)
    · skip
      refine lv_iconst (v := nI 0) hx hb dX5_leads_122 (by decide) ?_
      subst hQ
      exact ret_i hx hb hr hlk (⟨tr1_8, mv1_8⟩) (bI_0 (by rw [ldN_2]; first | (simp only [c65_2, Bool.false_and, Bool.and_false, Bool.true_and, Bool.and_true]; done) | (simp only [c65_2, c104, Bool.false_and, Bool.and_false, Bool.true_and, Bool.and_true]; done) | (simp only [c65_2, c104, decide_eq_true c115, Bool.false_and, Bool.and_false, Bool.true_and, Bool.and_true]; done) | (simp only [c65_2, c104, decide_eq_false c115, Bool.false_and, Bool.and_false, Bool.true_and, Bool.and_true]; done) | (rw [c65_2] at c104; exact absurd c104 (by decide)))) hP hD hS rfl dX5_leads_123
    · skip
      refine lv_aload_n hx hb dX5_leads_107 rfl (lv_at hl 5 rfl) ?_
      refine callVi (As := []) (rest := []) (wc := (MW G mh md nr nc pL pG pB pk bf hi sv ch hs inp ty er wy wd rf lt ln th tr1_8 mv1_8 (nI (cq / (2 * (nr + nc)))) sp wr td)) (wr := ([] : va_W)) ⟨hx, hb, hml, hown, hts⟩ (m_X5_homeTried l G mh md nr nc pL pG pB pk bf hi sv ch hs inp ty er wy wd rf lt ln th tr1_8 mv1_8 (nI (cq / (2 * (nr + nc)))) sp wr td (tn nr nc ((cq / 1) % (2 * (nr + nc))) (tn nr nc ((cq / (2 * (nr + nc))) % (2 * (nr + nc))) pL)) (by first | assumption | omega) (by first | exact hw87 | exact hw48) (tn_rg hd (Nat.mod_lt _ (by omega)) (tn_rg hd (Nat.mod_lt _ (by omega)) hLR)) (by first | assumption | omega)) (cwV 0 hts (lw_V q1895 q1897 qs53 q105 q1898) rfl rfl rfl (by decide +kernel) ⟨Nat.le_of_ble_eq_true rfl, Nat.le_of_ble_eq_true rfl⟩) hK hZ hA hP hD hS [0, 1, 2, 3, 4, 5, 6, 7, 8, 9] [] rfl rfl (by decide) (by decide) (by decide) 0 4 rfl rfl rfl hl.1 (Nat.le_of_ble_eq_true rfl) ⟨Nat.le_of_ble_eq_true rfl, Nat.le_of_ble_eq_true rfl⟩ rfl dX5_leads_108 (fun r9 u9 H locs hw9 hP hD hS => ?_)
      subst hw9
      have hP : va_P G.1 CL (MW G mh md nr nc pL pG pB pk bf hi sv ch hs inp ty er wy wd rf lt ln th tr1_8 mv1_8 (nI (cq / (2 * (nr + nc)))) sp wr td) _ := hP
      have hD : va_D A (MW G mh md nr nc pL pG pB pk bf hi sv ch hs inp ty er wy wd rf lt ln th tr1_8 mv1_8 (nI (cq / (2 * (nr + nc)))) sp wr td) := hD
      refine lv_aload_n hx hb dX5_leads_111 rfl (lv_at hl 5 rfl) ?_
      refine callVi (As := []) (rest := [.int (nI (hm nr nc (tn nr nc ((cq / 1) % (2 * (nr + nc))) (tn nr nc ((cq / (2 * (nr + nc))) % (2 * (nr + nc))) pL)) pG))]) (wc := (MW G mh md nr nc pL pG pB pk bf hi sv ch hs inp ty er wy wd rf lt ln th tr1_8 mv1_8 (nI (cq / (2 * (nr + nc)))) sp wr td)) (wr := ([] : va_W)) ⟨hx, hb, hml, hown, hts⟩ (m_X5_places l G mh md nr nc pL pG pB pk bf hi sv ch hs inp ty er wy wd rf lt ln th tr1_8 mv1_8 (nI (cq / (2 * (nr + nc)))) sp wr td ) (cwV 0 hts (lw_V q1817 q1819 qs38 q105 q1820) rfl rfl rfl (by decide +kernel) ⟨Nat.le_of_ble_eq_true rfl, Nat.le_of_ble_eq_true rfl⟩) hK hZ hA hP hD hS [0, 1, 2, 3, 4, 5, 6, 7, 8, 9] [] rfl rfl (by decide) (by decide) (by decide) 0 4 rfl rfl rfl hl.1 (Nat.le_of_ble_eq_true rfl) ⟨Nat.le_of_ble_eq_true rfl, Nat.le_of_ble_eq_true rfl⟩ rfl dX5_leads_112 (fun r9 u9 H locs hw9 hP hD hS => ?_)
      subst hw9
      have hP : va_P G.1 CL (MW G mh md nr nc pL pG pB pk bf hi sv ch hs inp ty er wy wd rf lt ln th tr1_8 mv1_8 (nI (cq / (2 * (nr + nc)))) sp wr td) _ := hP
      have hD : va_D A (MW G mh md nr nc pL pG pB pk bf hi sv ch hs inp ty er wy wd rf lt ln th tr1_8 mv1_8 (nI (cq / (2 * (nr + nc)))) sp wr td) := hD
      have hm9 := hm_le nr nc (tn nr nc ((cq / 1) % (2 * (nr + nc))) (tn nr nc ((cq / (2 * (nr + nc))) % (2 * (nr + nc))) pL)) pG
      refine n_cmp_ne (tgt := 122) hx hb dX5_leads_115 (by decide) (by omega) (by omega) (fun c115 => ?_) (fun c115 => ?_)
      · skip
        refine lv_iconst (v := nI 0) hx hb dX5_leads_122 (by decide) ?_
        subst hQ
        exact ret_i hx hb hr hlk (⟨tr1_8, mv1_8⟩) (bI_0 (by rw [ldN_2]; first | (simp only [c65_2, Bool.false_and, Bool.and_false, Bool.true_and, Bool.and_true]; done) | (simp only [c65_2, c104, Bool.false_and, Bool.and_false, Bool.true_and, Bool.and_true]; done) | (simp only [c65_2, c104, decide_eq_true c115, Bool.false_and, Bool.and_false, Bool.true_and, Bool.and_true]; done) | (simp only [c65_2, c104, decide_eq_false c115, Bool.false_and, Bool.and_false, Bool.true_and, Bool.and_true]; done) | (rw [c65_2] at c104; exact absurd c104 (by decide)))) hP hD hS rfl dX5_leads_123
      · skip
        refine lv_iconst (v := nI 1) hx hb dX5_leads_118 (by decide) ?_
        refine lv_goto (tgt := 123) hx hb dX5_leads_119 (by decide) ?_
        subst hQ
        exact ret_i hx hb hr hlk (⟨tr1_8, mv1_8⟩) (bI_1 (by rw [ldN_2]; first | (simp only [c65_2, Bool.false_and, Bool.and_false, Bool.true_and, Bool.and_true]; done) | (simp only [c65_2, c104, Bool.false_and, Bool.and_false, Bool.true_and, Bool.and_true]; done) | (simp only [c65_2, c104, decide_eq_true c115, Bool.false_and, Bool.and_false, Bool.true_and, Bool.and_true]; done) | (simp only [c65_2, c104, decide_eq_false c115, Bool.false_and, Bool.and_false, Bool.true_and, Bool.and_true]; done) | (rw [c65_2] at c104; exact absurd c104 (by decide)))) hP hD hS rfl dX5_leads_123
set_option maxHeartbeats 4000000 in
set_option maxRecDepth 100000 in
theorem m_X5_leads__3 (l : Launch) (G : GG) (mh : Nat) (md : Nat → Nat) (nr : Nat) (nc : Nat) (pL : Nat → Nat) (pG : Nat → Nat) (pB : Nat → Bool) (pk : Nat → Int32) (bf : Nat → Int32) (hi : Nat → Int32) (sv : Nat → Int32) (ch : Nat) (hs : Bool) (inp : Nat → Nat) (ty : Nat) (er : Int32) (wy : Int32) (wd : Int32) (rf : Bool) (lt : Nat → Nat) (ln : Nat) (th : Int32) (tr : Nat → Nat) (mv : Nat → Nat) (fo : Int32) (sp : Nat) (wr : Bool) (td : Nat → Int32) (cq : Nat) (hd : 2 ≤ nr ∧ nr ≤ 3 ∧ 2 ≤ nc ∧ nc ≤ 3) (hcd : cq < 30000) (hLR : ∀ q, q < nr * nc → 97 ≤ pL q ∧ pL q ≤ 108) (hKR : ∀ q, q < nr * nc → pG q = 46 ∨ (97 ≤ pG q ∧ pG q ≤ 108)) : MM l G yX5_leads cX5_leads 8 (some .boolean) ⟨2, 0, 0, 200⟩ [.ref mh, .int (nI cq), .int (nI 3)] (MW G mh md nr nc pL pG pB pk bf hi sv ch hs inp ty er wy wd rf lt ln th tr mv fo sp wr td) (Qi_ G (fun (r : Int32) (u : (Nat → Nat) × (Nat → Nat)) => r = bI (ldN nr nc pB pG cq 3 pL)) (fun (u : (Nat → Nat) × (Nat → Nat)) => (MW G mh md nr nc pL pG pB pk bf hi sv ch hs inp ty er wy wd rf lt ln th u.1 u.2 (nI (cq / ((2 * (nr + nc)) * (2 * (nr + nc))))) sp wr td))) := by
  refine MM.of (by decide) (Nat.le_of_ble_eq_true rfl) ?_
  intro p e s m args below meth cd A C hini hA hK hZ hP hD ls hl
  generalize hQ : MQ below ((Qi_ G (fun (r : Int32) (u : (Nat → Nat) × (Nat → Nat)) => r = bI (ldN nr nc pB pG cq 3 pL)) (fun (u : (Nat → Nat) × (Nat → Nat)) => (MW G mh md nr nc pL pG pB pk bf hi sv ch hs inp ty er wy wd rf lt ln th u.1 u.2 (nI (cq / ((2 * (nr + nc)) * (2 * (nr + nc))))) sp wr td))) A) args s (⟨2, 0, 0, 200⟩ : Room).cells (⟨2, 0, 0, 200⟩ : Room).slots A = Q
  obtain ⟨hx, hb, hr, hts, hown, hlk, hml⟩ := C
  have hown : s.vm.findClass RX5 = some m.cls := hown
  have hS : va_S A s.heap s.heap [] := va_S.rf
  have hl : lv_has ls 8 [(0, .ref mh), (1, .int (nI cq)), (2, .int (nI 3))] := hl
  have hmu := dm_mul hd
  have hq2 := T_sq hd
  refine lv_iconst (v := nI 2) hx hb dX5_leads_0 (by decide) ?_
  refine lv_aload_n hx hb dX5_leads_1 rfl (lv_at hl 0 rfl) ?_
  refine callVi (As := []) (rest := [.int (nI 2)]) (wc := (MW G mh md nr nc pL pG pB pk bf hi sv ch hs inp ty er wy wd rf lt ln th tr mv fo sp wr td)) (wr := ([] : va_W)) ⟨hx, hb, hml, hown, hts⟩ (m_X5_lines l G mh md nr nc pL pG pB pk bf hi sv ch hs inp ty er wy wd rf lt ln th tr mv fo sp wr td ) (cwV 0 hts (lw_V q1875 q1877 qs48 q105 q1878) rfl rfl rfl (by decide +kernel) ⟨Nat.le_of_ble_eq_true rfl, Nat.le_of_ble_eq_true rfl⟩) hK hZ hA hP hD hS [0, 1, 2, 3, 4, 5, 6, 7, 8, 9] [] rfl rfl (by decide) (by decide) (by decide) 0 4 rfl rfl rfl hl.1 (Nat.le_of_ble_eq_true rfl) ⟨Nat.le_of_ble_eq_true rfl, Nat.le_of_ble_eq_true rfl⟩ rfl dX5_leads_2 (fun r9 u9 H locs hw9 hP hD hS => ?_)
  subst hw9
  have hP : va_P G.1 CL (MW G mh md nr nc pL pG pB pk bf hi sv ch hs inp ty er wy wd rf lt ln th tr mv fo sp wr td) _ := hP
  have hD : va_D A (MW G mh md nr nc pL pG pB pk bf hi sv ch hs inp ty er wy wd rf lt ln th tr mv fo sp wr td) := hD
  refine n_imul hx hb dX5_leads_5 ?_
  refine lv_istore_n (lv' := [(3, .int (nI (2 * (nr + nc)))), (0, .ref mh), (1, .int (nI cq)), (2, .int (nI 3))]) hx hb dX5_leads_6 rfl hl (by decide) rfl (fun ls hl => ?_)
  refine lv_iconst (v := nI 1) hx hb dX5_leads_7 (by decide) ?_
  refine lv_istore (lv' := [(4, .int (nI 1)), (3, .int (nI (2 * (nr + nc)))), (0, .ref mh), (1, .int (nI cq)), (2, .int (nI 3))]) hx hb dX5_leads_8 hl (by decide) rfl (fun ls hl => ?_)
  refine lv_iconst (v := nI 1) hx hb dX5_leads_10 (by decide) ?_
  refine lv_istore (lv' := [(5, .int (nI 1)), (4, .int (nI 1)), (3, .int (nI (2 * (nr + nc)))), (0, .ref mh), (1, .int (nI cq)), (2, .int (nI 3))]) hx hb dX5_leads_11 hl (by decide) rfl (fun ls hl => ?_)
  refine lv_iload hx hb dX5_leads_13 (lv_at hl 0 rfl) ?_
  refine lv_iload_n hx hb dX5_leads_15 rfl (lv_at hl 5 rfl) ?_
  refine n_cmp_ge (tgt := 31) hx hb dX5_leads_16 (by decide) (by decide) (by decide) (fun c16 => ?_) (fun c16 => ?_)
  · exact absurd c16 (by decide)
  refine lv_iload hx hb dX5_leads_19 (lv_at hl 1 rfl) ?_
  refine lv_iload_n hx hb dX5_leads_21 rfl (lv_at hl 2 rfl) ?_
  refine n_imul hx hb dX5_leads_22 ?_
  refine eq_i (y := nI (2 * (nr + nc))) (congrArg nI (by first | rfl | exact Nat.one_mul _ | (rw [Nat.one_mul]))) ?_
  refine lv_istore (lv' := [(4, .int (nI (2 * (nr + nc)))), (5, .int (nI 1)), (3, .int (nI (2 * (nr + nc)))), (0, .ref mh), (1, .int (nI cq)), (2, .int (nI 3))]) hx hb dX5_leads_23 hl (by decide) rfl (fun ls hl => ?_)
  refine lv_iinc (v := nI 2) (lv' := [(5, .int (nI 2)), (4, .int (nI (2 * (nr + nc)))), (3, .int (nI (2 * (nr + nc)))), (0, .ref mh), (1, .int (nI cq)), (2, .int (nI 3))]) hx hb dX5_leads_25 hl (k := 1) rfl (by decide) (by decide) rfl (fun ls hl => ?_)
  refine lv_goto (tgt := 13) hx hb dX5_leads_28 (by decide) ?_
  refine lv_iload hx hb dX5_leads_13 (lv_at hl 0 rfl) ?_
  refine lv_iload_n hx hb dX5_leads_15 rfl (lv_at hl 5 rfl) ?_
  refine n_cmp_ge (tgt := 31) hx hb dX5_leads_16 (by decide) (by decide) (by decide) (fun c16_2 => ?_) (fun c16_2 => ?_)
  · exact absurd c16_2 (by decide)
  refine lv_iload hx hb dX5_leads_19 (lv_at hl 1 rfl) ?_
  refine lv_iload_n hx hb dX5_leads_21 rfl (lv_at hl 2 rfl) ?_
  refine n_imul hx hb dX5_leads_22 ?_
  refine eq_i (y := nI ((2 * (nr + nc)) * (2 * (nr + nc)))) (congrArg nI (by first | rfl | exact Nat.one_mul _ | (rw [Nat.one_mul]))) ?_
  refine lv_istore (lv' := [(4, .int (nI ((2 * (nr + nc)) * (2 * (nr + nc))))), (5, .int (nI 2)), (3, .int (nI (2 * (nr + nc)))), (0, .ref mh), (1, .int (nI cq)), (2, .int (nI 3))]) hx hb dX5_leads_23 hl (by decide) rfl (fun ls hl => ?_)
  refine lv_iinc (v := nI 3) (lv' := [(5, .int (nI 3)), (4, .int (nI ((2 * (nr + nc)) * (2 * (nr + nc))))), (3, .int (nI (2 * (nr + nc)))), (0, .ref mh), (1, .int (nI cq)), (2, .int (nI 3))]) hx hb dX5_leads_25 hl (k := 1) rfl (by decide) (by decide) rfl (fun ls hl => ?_)
  refine lv_goto (tgt := 13) hx hb dX5_leads_28 (by decide) ?_
  refine lv_iload hx hb dX5_leads_13 (lv_at hl 0 rfl) ?_
  refine lv_iload_n hx hb dX5_leads_15 rfl (lv_at hl 5 rfl) ?_
  refine n_cmp_ge (tgt := 31) hx hb dX5_leads_16 (by decide) (by decide) (by decide) (fun c16_3 => ?_) (fun c16_3 => ?_)
  rotate_left
  · exact absurd c16_3 (by decide)
  refine lv_aload_n hx hb dX5_leads_31 rfl (lv_at hl 3 rfl) ?_
  refine lv_iload_n hx hb dX5_leads_32 rfl (lv_at hl 5 rfl) ?_
  refine n_if_ne (tgt := 40) hx hb dX5_leads_33 (by decide) (by decide) (fun c33 => ?_) (fun c33 => ?_)
  rotate_left
  · exact absurd c33 (by decide)
  refine lv_iload_n hx hb dX5_leads_40 rfl (lv_at hl 4 rfl) ?_
  refine lv_iload hx hb dX5_leads_41 (lv_at hl 1 rfl) ?_
  refine n_idiv hx hb (by omega) (by omega) (by omega) dX5_leads_43 ?_
  refine va_put (D := G.1) (ci := 4) (v := .int (nI (cq / ((2 * (nr + nc)) * (2 * (nr + nc)))))) (ty := .int) (C := RX5) (T := TX5) (N := 21) hx hb hts in_X5 tyX5 tyX5_ok nmX5 hown hK hP hD hS 0 rfl rfl 17 (by decide) (hts _ q1744) (fun _ h9 => h9) rfl (by decide +kernel) rfl rfl (Nat.le_of_ble_eq_true rfl) dX5_leads_44 (fun H locs hP hD hS => ?_)
  have hP : va_P G.1 CL (MW G mh md nr nc pL pG pB pk bf hi sv ch hs inp ty er wy wd rf lt ln th tr mv (nI (cq / ((2 * (nr + nc)) * (2 * (nr + nc))))) sp wr td) _ := hP
  have hD : va_D A (MW G mh md nr nc pL pG pB pk bf hi sv ch hs inp ty er wy wd rf lt ln th tr mv (nI (cq / ((2 * (nr + nc)) * (2 * (nr + nc))))) sp wr td) := hD
  refine lv_aload_n hx hb dX5_leads_47 rfl (lv_at hl 3 rfl) ?_
  refine callVv (As := []) (rest := []) (wc := (MW G mh md nr nc pL pG pB pk bf hi sv ch hs inp ty er wy wd rf lt ln th tr mv (nI (cq / ((2 * (nr + nc)) * (2 * (nr + nc))))) sp wr td)) (wr := ([] : va_W)) ⟨hx, hb, hml, hown, hts⟩ (m_X5_tries l G mh md nr nc pL pG pB pk bf hi sv ch hs inp ty er wy wd rf lt ln th tr mv (nI (cq / ((2 * (nr + nc)) * (2 * (nr + nc))))) sp wr td (by first | assumption | omega) (by first | assumption | omega)) (cwV 0 hts (lw_V q1891 q1893 qs52 q105 q1894) rfl rfl rfl (by decide +kernel) ⟨Nat.le_of_ble_eq_true rfl, Nat.le_of_ble_eq_true rfl⟩) hK hZ hA hP hD hS [0, 1, 2, 3, 4, 5, 6, 7, 8, 9] [] rfl rfl (by decide) (by decide) (by decide) 0 4 rfl rfl rfl hl.1 (Nat.le_of_ble_eq_true rfl) ⟨Nat.le_of_ble_eq_true rfl, Nat.le_of_ble_eq_true rfl⟩ rfl dX5_leads_48 (fun u9 H locs hw9 hP hD hS => ?_)
  obtain ⟨tr1_2, e9⟩ : ∃ z, z = u9 := ⟨_, rfl⟩
  subst e9
  have hw48 : ∀ q, q < nr * nc → tr1_2 q = pL q - 97 := hw9
  have hP : va_P G.1 CL (MW G mh md nr nc pL pG pB pk bf hi sv ch hs inp ty er wy wd rf lt ln th tr1_2 mv (nI (cq / ((2 * (nr + nc)) * (2 * (nr + nc))))) sp wr td) _ := hP
  have hD : va_D A (MW G mh md nr nc pL pG pB pk bf hi sv ch hs inp ty er wy wd rf lt ln th tr1_2 mv (nI (cq / ((2 * (nr + nc)) * (2 * (nr + nc))))) sp wr td) := hD
  refine lv_iconst (v := nI 1) hx hb dX5_leads_51 (by decide) ?_
  refine lv_istore (lv' := [(5, .int (nI 1)), (4, .int (nI ((2 * (nr + nc)) * (2 * (nr + nc))))), (3, .int (nI (2 * (nr + nc)))), (0, .ref mh), (1, .int (nI cq)), (2, .int (nI 3))]) hx hb dX5_leads_52 hl (by decide) rfl (fun ls hl => ?_)
  refine lv_iconst (v := nI 0) hx hb dX5_leads_54 (by decide) ?_
  refine lv_istore (lv' := [(6, .int (nI 0)), (5, .int (nI 1)), (4, .int (nI ((2 * (nr + nc)) * (2 * (nr + nc))))), (3, .int (nI (2 * (nr + nc)))), (0, .ref mh), (1, .int (nI cq)), (2, .int (nI 3))]) hx hb dX5_leads_55 hl (by decide) rfl (fun ls hl => ?_)
  refine lv_iload hx hb dX5_leads_57 (lv_at hl 0 rfl) ?_
  refine lv_iload_n hx hb dX5_leads_59 rfl (lv_at hl 6 rfl) ?_
  refine n_cmp_ge (tgt := 102) hx hb dX5_leads_60 (by decide) (by decide) (by decide) (fun c60 => ?_) (fun c60 => ?_)
  · exact absurd c60 (by decide)
  refine lv_iload hx hb dX5_leads_63 (lv_at hl 1 rfl) ?_
  refine n_if_eq (tgt := 102) hx hb dX5_leads_65 (by decide) (by decide) (fun c65 => ?_) (fun c65 => ?_)
  · exact absurd c65 (by decide)
  refine lv_iload_n hx hb dX5_leads_68 rfl (lv_at hl 5 rfl) ?_
  refine lv_iload hx hb dX5_leads_69 (lv_at hl 2 rfl) ?_
  refine n_idiv hx hb (by omega) (by omega) (by omega) dX5_leads_71 ?_
  refine lv_iload_n hx hb dX5_leads_72 rfl (lv_at hl 3 rfl) ?_
  refine n_irem hx hb (Nat.lt_of_le_of_lt (Nat.div_le_self _ _) (by omega)) (by omega) (by omega) dX5_leads_73 ?_
  refine lv_istore (lv' := [(7, .int (nI ((cq / ((2 * (nr + nc)) * (2 * (nr + nc)))) % (2 * (nr + nc))))), (6, .int (nI 0)), (5, .int (nI 1)), (4, .int (nI ((2 * (nr + nc)) * (2 * (nr + nc))))), (3, .int (nI (2 * (nr + nc)))), (0, .ref mh), (1, .int (nI cq)), (2, .int (nI 3))]) hx hb dX5_leads_74 hl (by decide) rfl (fun ls hl => ?_)
  refine lv_aload_n hx hb dX5_leads_76 rfl (lv_at hl 5 rfl) ?_
  refine lv_iload hx hb dX5_leads_77 (lv_at hl 0 rfl) ?_
  refine callVi (As := [.int (nI ((cq / ((2 * (nr + nc)) * (2 * (nr + nc)))) % (2 * (nr + nc))))]) (rest := []) (wc := (MW G mh md nr nc pL pG pB pk bf hi sv ch hs inp ty er wy wd rf lt ln th tr1_2 mv (nI (cq / ((2 * (nr + nc)) * (2 * (nr + nc))))) sp wr td)) (wr := ([] : va_W)) ⟨hx, hb, hml, hown, hts⟩ (m_X5_isOpen l G mh md nr nc pL pG pB pk bf hi sv ch hs inp ty er wy wd rf lt ln th tr1_2 mv (nI (cq / ((2 * (nr + nc)) * (2 * (nr + nc))))) sp wr td ((cq / ((2 * (nr + nc)) * (2 * (nr + nc)))) % (2 * (nr + nc))) (Nat.lt_of_lt_of_le (Nat.mod_lt _ (by omega)) (by omega))) (cwV 1 hts (lw_V q1879 q1881 qs49 q105 q1882) rfl rfl rfl (by decide +kernel) ⟨Nat.le_of_ble_eq_true rfl, Nat.le_of_ble_eq_true rfl⟩) hK hZ hA hP hD hS [0, 1, 2, 3, 4, 5, 6, 7, 8, 9] [] rfl rfl (by decide) (by decide) (by decide) 0 4 rfl rfl rfl hl.1 (Nat.le_of_ble_eq_true rfl) ⟨Nat.le_of_ble_eq_true rfl, Nat.le_of_ble_eq_true rfl⟩ rfl dX5_leads_79 (fun r9 u9 H locs hw9 hP hD hS => ?_)
  subst hw9
  have hP : va_P G.1 CL (MW G mh md nr nc pL pG pB pk bf hi sv ch hs inp ty er wy wd rf lt ln th tr1_2 mv (nI (cq / ((2 * (nr + nc)) * (2 * (nr + nc))))) sp wr td) _ := hP
  have hD : va_D A (MW G mh md nr nc pL pG pB pk bf hi sv ch hs inp ty er wy wd rf lt ln th tr1_2 mv (nI (cq / ((2 * (nr + nc)) * (2 * (nr + nc))))) sp wr td) := hD
  refine lv_istore (lv' := [(5, .int (bI (!pB (((cq / ((2 * (nr + nc)) * (2 * (nr + nc)))) % (2 * (nr + nc))) / 2)))), (7, .int (nI ((cq / ((2 * (nr + nc)) * (2 * (nr + nc)))) % (2 * (nr + nc))))), (6, .int (nI 0)), (4, .int (nI ((2 * (nr + nc)) * (2 * (nr + nc))))), (3, .int (nI (2 * (nr + nc)))), (0, .ref mh), (1, .int (nI cq)), (2, .int (nI 3))]) hx hb dX5_leads_82 hl (by decide) rfl (fun ls hl => ?_)
  refine lv_aload_n hx hb dX5_leads_84 rfl (lv_at hl 5 rfl) ?_
  refine lv_iload hx hb dX5_leads_85 (lv_at hl 1 rfl) ?_
  refine callVv (As := [.int (nI ((cq / ((2 * (nr + nc)) * (2 * (nr + nc)))) % (2 * (nr + nc))))]) (rest := []) (wc := (MW G mh md nr nc pL pG pB pk bf hi sv ch hs inp ty er wy wd rf lt ln th tr1_2 mv (nI (cq / ((2 * (nr + nc)) * (2 * (nr + nc))))) sp wr td)) (wr := ([] : va_W)) ⟨hx, hb, hml, hown, hts⟩ (m_X5_turnsTried l G mh md nr nc pL pG pB pk bf hi sv ch hs inp ty er wy wd rf lt ln th tr1_2 mv (nI (cq / ((2 * (nr + nc)) * (2 * (nr + nc))))) sp wr td ((cq / ((2 * (nr + nc)) * (2 * (nr + nc)))) % (2 * (nr + nc))) pL (by first | assumption | omega) (Nat.mod_lt _ (by omega)) (by first | exact hw87 | exact hw48)) (cwV 1 hts (lw_V q1903 q1905 qs55 q105 q1906) rfl rfl rfl (by decide +kernel) ⟨Nat.le_of_ble_eq_true rfl, Nat.le_of_ble_eq_true rfl⟩) hK hZ hA hP hD hS [0, 1, 2, 3, 4, 5, 6, 7, 8, 9] [] rfl rfl (by decide) (by decide) (by decide) 0 4 rfl rfl rfl hl.1 (Nat.le_of_ble_eq_true rfl) ⟨Nat.le_of_ble_eq_true rfl, Nat.le_of_ble_eq_true rfl⟩ rfl dX5_leads_87 (fun u9 H locs hw9 hP hD hS => ?_)
  obtain ⟨tr1_4, mv1_4⟩ := u9
  have hw87 : ∀ q, q < nr * nc → tr1_4 q = tn nr nc ((cq / ((2 * (nr + nc)) * (2 * (nr + nc)))) % (2 * (nr + nc))) pL q - 97 := hw9
  have hP : va_P G.1 CL (MW G mh md nr nc pL pG pB pk bf hi sv ch hs inp ty er wy wd rf lt ln th tr1_4 mv1_4 (nI (cq / ((2 * (nr + nc)) * (2 * (nr + nc))))) sp wr td) _ := hP
  have hD : va_D A (MW G mh md nr nc pL pG pB pk bf hi sv ch hs inp ty er wy wd rf lt ln th tr1_4 mv1_4 (nI (cq / ((2 * (nr + nc)) * (2 * (nr + nc))))) sp wr td) := hD
  refine lv_iload hx hb dX5_leads_90 (lv_at hl 3 rfl) ?_
  refine lv_iload_n hx hb dX5_leads_92 rfl (lv_at hl 4 rfl) ?_
  refine n_idiv hx hb (by omega) (by omega) (by omega) dX5_leads_93 ?_
  refine eq_i (y := nI (2 * (nr + nc))) (congrArg nI (by first | exact Nat.mul_div_cancel _ (by omega) | exact Nat.div_self (by omega) | exact Nat.div_eq_of_lt (by omega))) ?_
  refine lv_istore (lv' := [(4, .int (nI (2 * (nr + nc)))), (5, .int (bI (!pB (((cq / ((2 * (nr + nc)) * (2 * (nr + nc)))) % (2 * (nr + nc))) / 2)))), (7, .int (nI ((cq / ((2 * (nr + nc)) * (2 * (nr + nc)))) % (2 * (nr + nc))))), (6, .int (nI 0)), (3, .int (nI (2 * (nr + nc)))), (0, .ref mh), (1, .int (nI cq)), (2, .int (nI 3))]) hx hb dX5_leads_94 hl (by decide) rfl (fun ls hl => ?_)
  refine lv_iinc (v := nI 1) (lv' := [(6, .int (nI 1)), (4, .int (nI (2 * (nr + nc)))), (5, .int (bI (!pB (((cq / ((2 * (nr + nc)) * (2 * (nr + nc)))) % (2 * (nr + nc))) / 2)))), (7, .int (nI ((cq / ((2 * (nr + nc)) * (2 * (nr + nc)))) % (2 * (nr + nc))))), (3, .int (nI (2 * (nr + nc)))), (0, .ref mh), (1, .int (nI cq)), (2, .int (nI 3))]) hx hb dX5_leads_96 hl (k := 3) rfl (by decide) (by decide) rfl (fun ls hl => ?_)
  refine lv_goto (tgt := 57) hx hb dX5_leads_99 (by decide) ?_
  refine lv_iload hx hb dX5_leads_57 (lv_at hl 0 rfl) ?_
  refine lv_iload_n hx hb dX5_leads_59 rfl (lv_at hl 7 rfl) ?_
  refine n_cmp_ge (tgt := 102) hx hb dX5_leads_60 (by decide) (by decide) (by decide) (fun c60_2 => ?_) (fun c60_2 => ?_)
  · exact absurd c60_2 (by decide)
  refine lv_iload hx hb dX5_leads_63 (lv_at hl 2 rfl) ?_
  refine b_if_eq (tgt := 102) hx hb dX5_leads_65 (by decide) (fun c65_2 => ?_) (fun c65_2 => ?_)
  · skip
    refine lv_iload hx hb dX5_leads_102 (lv_at hl 2 rfl) ?_
    refine b_if_eq (tgt := 122) hx hb dX5_leads_104 (by decide) (fun c104 => ?_) (fun c104 => ?_)
    · skip
      refine lv_iconst (v := nI 0) hx hb dX5_leads_122 (by decide) ?_
      subst hQ
      exact ret_i hx hb hr hlk (⟨tr1_4, mv1_4⟩) (bI_0 (by rw [ldN_3]; first | (simp only [c65_2, Bool.false_and, Bool.and_false, Bool.true_and, Bool.and_true]; done) | (simp only [c65_2, c65_3, Bool.false_and, Bool.and_false, Bool.true_and, Bool.and_true]; done) | (simp only [c65_2, c65_3, c104, Bool.false_and, Bool.and_false, Bool.true_and, Bool.and_true]; done) | (simp only [c65_2, c65_3, c104, decide_eq_true c115, Bool.false_and, Bool.and_false, Bool.true_and, Bool.and_true]; done) | (simp only [c65_2, c65_3, c104, decide_eq_false c115, Bool.false_and, Bool.and_false, Bool.true_and, Bool.and_true]; done) | (rw [c65_2] at c104; exact absurd c104 (by decide)) | (rw [c65_3] at c104; exact absurd c104 (by decide)))) hP hD hS rfl dX5_leads_123
    · skip
      refine lv_aload_n hx hb dX5_leads_107 rfl (lv_at hl 5 rfl) ?_
      refine callVi (As := []) (rest := []) (wc := (MW G mh md nr nc pL pG pB pk bf hi sv ch hs inp ty er wy wd rf lt ln th tr1_4 mv1_4 (nI (cq / ((2 * (nr + nc)) * (2 * (nr + nc))))) sp wr td)) (wr := ([] : va_W)) ⟨hx, hb, hml, hown, hts⟩ (m_X5_homeTried l G mh md nr nc pL pG pB pk bf hi sv ch hs inp ty er wy wd rf lt ln th tr1_4 mv1_4 (nI (cq / ((2 * (nr + nc)) * (2 * (nr + nc))))) sp wr td (tn nr nc ((cq / ((2 * (nr + nc)) * (2 * (nr + nc)))) % (2 * (nr + nc))) pL) (by first | assumption | omega) (by first | exact hw87 | exact hw48) (tn_rg hd (Nat.mod_lt _ (by omega)) hLR) (by first | assumption | omega)) (cwV 0 hts (lw_V q1895 q1897 qs53 q105 q1898) rfl rfl rfl (by decide +kernel) ⟨Nat.le_of_ble_eq_true rfl, Nat.le_of_ble_eq_true rfl⟩) hK hZ hA hP hD hS [0, 1, 2, 3, 4, 5, 6, 7, 8, 9] [] rfl rfl (by decide) (by decide) (by decide) 0 4 rfl rfl rfl hl.1 (Nat.le_of_ble_eq_true rfl) ⟨Nat.le_of_ble_eq_true rfl, Nat.le_of_ble_eq_true rfl⟩ rfl dX5_leads_108 (fun r9 u9 H locs hw9 hP hD hS => ?_)
      subst hw9
      have hP : va_P G.1 CL (MW G mh md nr nc pL pG pB pk bf hi sv ch hs inp ty er wy wd rf lt ln th tr1_4 mv1_4 (nI (cq / ((2 * (nr + nc)) * (2 * (nr + nc))))) sp wr td) _ := hP
      have hD : va_D A (MW G mh md nr nc pL pG pB pk bf hi sv ch hs inp ty er wy wd rf lt ln th tr1_4 mv1_4 (nI (cq / ((2 * (nr + nc)) * (2 * (nr + nc))))) sp wr td) := hD
      refine lv_aload_n hx hb dX5_leads_111 rfl (lv_at hl 5 rfl) ?_
      refine callVi (As := []) (rest := [.int (nI (hm nr nc (tn nr nc ((cq / ((2 * (nr + nc)) * (2 * (nr + nc)))) % (2 * (nr + nc))) pL) pG))]) (wc := (MW G mh md nr nc pL pG pB pk bf hi sv ch hs inp ty er wy wd rf lt ln th tr1_4 mv1_4 (nI (cq / ((2 * (nr + nc)) * (2 * (nr + nc))))) sp wr td)) (wr := ([] : va_W)) ⟨hx, hb, hml, hown, hts⟩ (m_X5_places l G mh md nr nc pL pG pB pk bf hi sv ch hs inp ty er wy wd rf lt ln th tr1_4 mv1_4 (nI (cq / ((2 * (nr + nc)) * (2 * (nr + nc))))) sp wr td ) (cwV 0 hts (lw_V q1817 q1819 qs38 q105 q1820) rfl rfl rfl (by decide +kernel) ⟨Nat.le_of_ble_eq_true rfl, Nat.le_of_ble_eq_true rfl⟩) hK hZ hA hP hD hS [0, 1, 2, 3, 4, 5, 6, 7, 8, 9] [] rfl rfl (by decide) (by decide) (by decide) 0 4 rfl rfl rfl hl.1 (Nat.le_of_ble_eq_true rfl) ⟨Nat.le_of_ble_eq_true rfl, Nat.le_of_ble_eq_true rfl⟩ rfl dX5_leads_112 (fun r9 u9 H locs hw9 hP hD hS => ?_)
      subst hw9
      have hP : va_P G.1 CL (MW G mh md nr nc pL pG pB pk bf hi sv ch hs inp ty er wy wd rf lt ln th tr1_4 mv1_4 (nI (cq / ((2 * (nr + nc)) * (2 * (nr + nc))))) sp wr td) _ := hP
      have hD : va_D A (MW G mh md nr nc pL pG pB pk bf hi sv ch hs inp ty er wy wd rf lt ln th tr1_4 mv1_4 (nI (cq / ((2 * (nr + nc)) * (2 * (nr + nc))))) sp wr td) := hD
      have hm9 := hm_le nr nc (tn nr nc ((cq / ((2 * (nr + nc)) * (2 * (nr + nc)))) % (2 * (nr + nc))) pL) pG
      refine n_cmp_ne (tgt := 122) hx hb dX5_leads_115 (by decide) (by omega) (by omega) (fun c115 => ?_) (fun c115 => ?_)
      · skip
        refine lv_iconst (v := nI 0) hx hb dX5_leads_122 (by decide) ?_
        subst hQ
        exact ret_i hx hb hr hlk (⟨tr1_4, mv1_4⟩) (bI_0 (by rw [ldN_3]; first | (simp only [c65_2, Bool.false_and, Bool.and_false, Bool.true_and, Bool.and_true]; done) | (simp only [c65_2, c65_3, Bool.false_and, Bool.and_false, Bool.true_and, Bool.and_true]; done) | (simp only [c65_2, c65_3, c104, Bool.false_and, Bool.and_false, Bool.true_and, Bool.and_true]; done) | (simp only [c65_2, c65_3, c104, decide_eq_true c115, Bool.false_and, Bool.and_false, Bool.true_and, Bool.and_true]; done) | (simp only [c65_2, c65_3, c104, decide_eq_false c115, Bool.false_and, Bool.and_false, Bool.true_and, Bool.and_true]; done) | (rw [c65_2] at c104; exact absurd c104 (by decide)) | (rw [c65_3] at c104; exact absurd c104 (by decide)))) hP hD hS rfl dX5_leads_123
      · skip
        refine lv_iconst (v := nI 1) hx hb dX5_leads_118 (by decide) ?_
        refine lv_goto (tgt := 123) hx hb dX5_leads_119 (by decide) ?_
        subst hQ
        exact ret_i hx hb hr hlk (⟨tr1_4, mv1_4⟩) (bI_1 (by rw [ldN_3]; first | (simp only [c65_2, Bool.false_and, Bool.and_false, Bool.true_and, Bool.and_true]; done) | (simp only [c65_2, c65_3, Bool.false_and, Bool.and_false, Bool.true_and, Bool.and_true]; done) | (simp only [c65_2, c65_3, c104, Bool.false_and, Bool.and_false, Bool.true_and, Bool.and_true]; done) | (simp only [c65_2, c65_3, c104, decide_eq_true c115, Bool.false_and, Bool.and_false, Bool.true_and, Bool.and_true]; done) | (simp only [c65_2, c65_3, c104, decide_eq_false c115, Bool.false_and, Bool.and_false, Bool.true_and, Bool.and_true]; done) | (rw [c65_2] at c104; exact absurd c104 (by decide)) | (rw [c65_3] at c104; exact absurd c104 (by decide)))) hP hD hS rfl dX5_leads_123
  · skip
    refine lv_iload_n hx hb dX5_leads_68 rfl (lv_at hl 6 rfl) ?_
    refine lv_iload hx hb dX5_leads_69 (lv_at hl 1 rfl) ?_
    refine n_idiv hx hb (by omega) (by omega) (by omega) dX5_leads_71 ?_
    refine lv_iload_n hx hb dX5_leads_72 rfl (lv_at hl 4 rfl) ?_
    refine n_irem hx hb (Nat.lt_of_le_of_lt (Nat.div_le_self _ _) (by omega)) (by omega) (by omega) dX5_leads_73 ?_
    refine lv_istore (lv' := [(7, .int (nI ((cq / (2 * (nr + nc))) % (2 * (nr + nc))))), (6, .int (nI 1)), (4, .int (nI (2 * (nr + nc)))), (5, .int (bI (!pB (((cq / ((2 * (nr + nc)) * (2 * (nr + nc)))) % (2 * (nr + nc))) / 2)))), (3, .int (nI (2 * (nr + nc)))), (0, .ref mh), (1, .int (nI cq)), (2, .int (nI 3))]) hx hb dX5_leads_74 hl (by decide) rfl (fun ls hl => ?_)
    refine lv_aload_n hx hb dX5_leads_76 rfl (lv_at hl 5 rfl) ?_
    refine lv_iload hx hb dX5_leads_77 (lv_at hl 0 rfl) ?_
    refine callVi (As := [.int (nI ((cq / (2 * (nr + nc))) % (2 * (nr + nc))))]) (rest := []) (wc := (MW G mh md nr nc pL pG pB pk bf hi sv ch hs inp ty er wy wd rf lt ln th tr1_4 mv1_4 (nI (cq / ((2 * (nr + nc)) * (2 * (nr + nc))))) sp wr td)) (wr := ([] : va_W)) ⟨hx, hb, hml, hown, hts⟩ (m_X5_isOpen l G mh md nr nc pL pG pB pk bf hi sv ch hs inp ty er wy wd rf lt ln th tr1_4 mv1_4 (nI (cq / ((2 * (nr + nc)) * (2 * (nr + nc))))) sp wr td ((cq / (2 * (nr + nc))) % (2 * (nr + nc))) (Nat.lt_of_lt_of_le (Nat.mod_lt _ (by omega)) (by omega))) (cwV 1 hts (lw_V q1879 q1881 qs49 q105 q1882) rfl rfl rfl (by decide +kernel) ⟨Nat.le_of_ble_eq_true rfl, Nat.le_of_ble_eq_true rfl⟩) hK hZ hA hP hD hS [0, 1, 2, 3, 4, 5, 6, 7, 8, 9] [] rfl rfl (by decide) (by decide) (by decide) 0 4 rfl rfl rfl hl.1 (Nat.le_of_ble_eq_true rfl) ⟨Nat.le_of_ble_eq_true rfl, Nat.le_of_ble_eq_true rfl⟩ rfl dX5_leads_79 (fun r9 u9 H locs hw9 hP hD hS => ?_)
    subst hw9
    have hP : va_P G.1 CL (MW G mh md nr nc pL pG pB pk bf hi sv ch hs inp ty er wy wd rf lt ln th tr1_4 mv1_4 (nI (cq / ((2 * (nr + nc)) * (2 * (nr + nc))))) sp wr td) _ := hP
    have hD : va_D A (MW G mh md nr nc pL pG pB pk bf hi sv ch hs inp ty er wy wd rf lt ln th tr1_4 mv1_4 (nI (cq / ((2 * (nr + nc)) * (2 * (nr + nc))))) sp wr td) := hD
    refine lv_istore (lv' := [(5, .int (bI (!pB (((cq / (2 * (nr + nc))) % (2 * (nr + nc))) / 2)))), (7, .int (nI ((cq / (2 * (nr + nc))) % (2 * (nr + nc))))), (6, .int (nI 1)), (4, .int (nI (2 * (nr + nc)))), (3, .int (nI (2 * (nr + nc)))), (0, .ref mh), (1, .int (nI cq)), (2, .int (nI 3))]) hx hb dX5_leads_82 hl (by decide) rfl (fun ls hl => ?_)
    refine lv_aload_n hx hb dX5_leads_84 rfl (lv_at hl 5 rfl) ?_
    refine lv_iload hx hb dX5_leads_85 (lv_at hl 1 rfl) ?_
    refine callVv (As := [.int (nI ((cq / (2 * (nr + nc))) % (2 * (nr + nc))))]) (rest := []) (wc := (MW G mh md nr nc pL pG pB pk bf hi sv ch hs inp ty er wy wd rf lt ln th tr1_4 mv1_4 (nI (cq / ((2 * (nr + nc)) * (2 * (nr + nc))))) sp wr td)) (wr := ([] : va_W)) ⟨hx, hb, hml, hown, hts⟩ (m_X5_turnsTried l G mh md nr nc pL pG pB pk bf hi sv ch hs inp ty er wy wd rf lt ln th tr1_4 mv1_4 (nI (cq / ((2 * (nr + nc)) * (2 * (nr + nc))))) sp wr td ((cq / (2 * (nr + nc))) % (2 * (nr + nc))) (tn nr nc ((cq / ((2 * (nr + nc)) * (2 * (nr + nc)))) % (2 * (nr + nc))) pL) (by first | assumption | omega) (Nat.mod_lt _ (by omega)) (by first | exact hw87 | exact hw48)) (cwV 1 hts (lw_V q1903 q1905 qs55 q105 q1906) rfl rfl rfl (by decide +kernel) ⟨Nat.le_of_ble_eq_true rfl, Nat.le_of_ble_eq_true rfl⟩) hK hZ hA hP hD hS [0, 1, 2, 3, 4, 5, 6, 7, 8, 9] [] rfl rfl (by decide) (by decide) (by decide) 0 4 rfl rfl rfl hl.1 (Nat.le_of_ble_eq_true rfl) ⟨Nat.le_of_ble_eq_true rfl, Nat.le_of_ble_eq_true rfl⟩ rfl dX5_leads_87 (fun u9 H locs hw9 hP hD hS => ?_)
    obtain ⟨tr1_8, mv1_8⟩ := u9
    have hw87 : ∀ q, q < nr * nc → tr1_8 q = tn nr nc ((cq / (2 * (nr + nc))) % (2 * (nr + nc))) (tn nr nc ((cq / ((2 * (nr + nc)) * (2 * (nr + nc)))) % (2 * (nr + nc))) pL) q - 97 := hw9
    have hP : va_P G.1 CL (MW G mh md nr nc pL pG pB pk bf hi sv ch hs inp ty er wy wd rf lt ln th tr1_8 mv1_8 (nI (cq / ((2 * (nr + nc)) * (2 * (nr + nc))))) sp wr td) _ := hP
    have hD : va_D A (MW G mh md nr nc pL pG pB pk bf hi sv ch hs inp ty er wy wd rf lt ln th tr1_8 mv1_8 (nI (cq / ((2 * (nr + nc)) * (2 * (nr + nc))))) sp wr td) := hD
    refine lv_iload hx hb dX5_leads_90 (lv_at hl 3 rfl) ?_
    refine lv_iload_n hx hb dX5_leads_92 rfl (lv_at hl 4 rfl) ?_
    refine n_idiv hx hb (by omega) (by omega) (by omega) dX5_leads_93 ?_
    refine eq_i (y := nI 1) (congrArg nI (by first | exact Nat.mul_div_cancel _ (by omega) | exact Nat.div_self (by omega) | exact Nat.div_eq_of_lt (by omega))) ?_
    refine lv_istore (lv' := [(4, .int (nI 1)), (5, .int (bI (!pB (((cq / (2 * (nr + nc))) % (2 * (nr + nc))) / 2)))), (7, .int (nI ((cq / (2 * (nr + nc))) % (2 * (nr + nc))))), (6, .int (nI 1)), (3, .int (nI (2 * (nr + nc)))), (0, .ref mh), (1, .int (nI cq)), (2, .int (nI 3))]) hx hb dX5_leads_94 hl (by decide) rfl (fun ls hl => ?_)
    refine lv_iinc (v := nI 2) (lv' := [(6, .int (nI 2)), (4, .int (nI 1)), (5, .int (bI (!pB (((cq / (2 * (nr + nc))) % (2 * (nr + nc))) / 2)))), (7, .int (nI ((cq / (2 * (nr + nc))) % (2 * (nr + nc))))), (3, .int (nI (2 * (nr + nc)))), (0, .ref mh), (1, .int (nI cq)), (2, .int (nI 3))]) hx hb dX5_leads_96 hl (k := 3) rfl (by decide) (by decide) rfl (fun ls hl => ?_)
    refine lv_goto (tgt := 57) hx hb dX5_leads_99 (by decide) ?_
    refine lv_iload hx hb dX5_leads_57 (lv_at hl 0 rfl) ?_
    refine lv_iload_n hx hb dX5_leads_59 rfl (lv_at hl 7 rfl) ?_
    refine n_cmp_ge (tgt := 102) hx hb dX5_leads_60 (by decide) (by decide) (by decide) (fun c60_3 => ?_) (fun c60_3 => ?_)
    · exact absurd c60_3 (by decide)
    refine lv_iload hx hb dX5_leads_63 (lv_at hl 2 rfl) ?_
    refine b_if_eq (tgt := 102) hx hb dX5_leads_65 (by decide) (fun c65_3 => ?_) (fun c65_3 => ?_)
    · skip
      refine lv_iload hx hb dX5_leads_102 (lv_at hl 2 rfl) ?_
      refine b_if_eq (tgt := 122) hx hb dX5_leads_104 (by decide) (fun c104 => ?_) (fun c104 => ?_)
      · skip
        refine lv_iconst (v := nI 0) hx hb dX5_leads_122 (by decide) ?_
        subst hQ
        exact ret_i hx hb hr hlk (⟨tr1_8, mv1_8⟩) (bI_0 (by rw [ldN_3]; first | (simp only [c65_2, Bool.false_and, Bool.and_false, Bool.true_and, Bool.and_true]; done) | (simp only [c65_2, c65_3, Bool.false_and, Bool.and_false, Bool.true_and, Bool.and_true]; done) | (simp only [c65_2, c65_3, c104, Bool.false_and, Bool.and_false, Bool.true_and, Bool.and_true]; done) | (simp only [c65_2, c65_3, c104, decide_eq_true c115, Bool.false_and, Bool.and_false, Bool.true_and, Bool.and_true]; done) | (simp only [c65_2, c65_3, c104, decide_eq_false c115, Bool.false_and, Bool.and_false, Bool.true_and, Bool.and_true]; done) | (rw [c65_2] at c104; exact absurd c104 (by decide)) | (rw [c65_3] at c104; exact absurd c104 (by decide)))) hP hD hS rfl dX5_leads_123
      · skip
        refine lv_aload_n hx hb dX5_leads_107 rfl (lv_at hl 5 rfl) ?_
        refine callVi (As := []) (rest := []) (wc := (MW G mh md nr nc pL pG pB pk bf hi sv ch hs inp ty er wy wd rf lt ln th tr1_8 mv1_8 (nI (cq / ((2 * (nr + nc)) * (2 * (nr + nc))))) sp wr td)) (wr := ([] : va_W)) ⟨hx, hb, hml, hown, hts⟩ (m_X5_homeTried l G mh md nr nc pL pG pB pk bf hi sv ch hs inp ty er wy wd rf lt ln th tr1_8 mv1_8 (nI (cq / ((2 * (nr + nc)) * (2 * (nr + nc))))) sp wr td (tn nr nc ((cq / (2 * (nr + nc))) % (2 * (nr + nc))) (tn nr nc ((cq / ((2 * (nr + nc)) * (2 * (nr + nc)))) % (2 * (nr + nc))) pL)) (by first | assumption | omega) (by first | exact hw87 | exact hw48) (tn_rg hd (Nat.mod_lt _ (by omega)) (tn_rg hd (Nat.mod_lt _ (by omega)) hLR)) (by first | assumption | omega)) (cwV 0 hts (lw_V q1895 q1897 qs53 q105 q1898) rfl rfl rfl (by decide +kernel) ⟨Nat.le_of_ble_eq_true rfl, Nat.le_of_ble_eq_true rfl⟩) hK hZ hA hP hD hS [0, 1, 2, 3, 4, 5, 6, 7, 8, 9] [] rfl rfl (by decide) (by decide) (by decide) 0 4 rfl rfl rfl hl.1 (Nat.le_of_ble_eq_true rfl) ⟨Nat.le_of_ble_eq_true rfl, Nat.le_of_ble_eq_true rfl⟩ rfl dX5_leads_108 (fun r9 u9 H locs hw9 hP hD hS => ?_)
        subst hw9
        have hP : va_P G.1 CL (MW G mh md nr nc pL pG pB pk bf hi sv ch hs inp ty er wy wd rf lt ln th tr1_8 mv1_8 (nI (cq / ((2 * (nr + nc)) * (2 * (nr + nc))))) sp wr td) _ := hP
        have hD : va_D A (MW G mh md nr nc pL pG pB pk bf hi sv ch hs inp ty er wy wd rf lt ln th tr1_8 mv1_8 (nI (cq / ((2 * (nr + nc)) * (2 * (nr + nc))))) sp wr td) := hD
        refine lv_aload_n hx hb dX5_leads_111 rfl (lv_at hl 5 rfl) ?_
        refine callVi (As := []) (rest := [.int (nI (hm nr nc (tn nr nc ((cq / (2 * (nr + nc))) % (2 * (nr + nc))) (tn nr nc ((cq / ((2 * (nr + nc)) * (2 * (nr + nc)))) % (2 * (nr + nc))) pL)) pG))]) (wc := (MW G mh md nr nc pL pG pB pk bf hi sv ch hs inp ty er wy wd rf lt ln th tr1_8 mv1_8 (nI (cq / ((2 * (nr + nc)) * (2 * (nr + nc))))) sp wr td)) (wr := ([] : va_W)) ⟨hx, hb, hml, hown, hts⟩ (m_X5_places l G mh md nr nc pL pG pB pk bf hi sv ch hs inp ty er wy wd rf lt ln th tr1_8 mv1_8 (nI (cq / ((2 * (nr + nc)) * (2 * (nr + nc))))) sp wr td ) (cwV 0 hts (lw_V q1817 q1819 qs38 q105 q1820) rfl rfl rfl (by decide +kernel) ⟨Nat.le_of_ble_eq_true rfl, Nat.le_of_ble_eq_true rfl⟩) hK hZ hA hP hD hS [0, 1, 2, 3, 4, 5, 6, 7, 8, 9] [] rfl rfl (by decide) (by decide) (by decide) 0 4 rfl rfl rfl hl.1 (Nat.le_of_ble_eq_true rfl) ⟨Nat.le_of_ble_eq_true rfl, Nat.le_of_ble_eq_true rfl⟩ rfl dX5_leads_112 (fun r9 u9 H locs hw9 hP hD hS => ?_)
        subst hw9
        have hP : va_P G.1 CL (MW G mh md nr nc pL pG pB pk bf hi sv ch hs inp ty er wy wd rf lt ln th tr1_8 mv1_8 (nI (cq / ((2 * (nr + nc)) * (2 * (nr + nc))))) sp wr td) _ := hP
        have hD : va_D A (MW G mh md nr nc pL pG pB pk bf hi sv ch hs inp ty er wy wd rf lt ln th tr1_8 mv1_8 (nI (cq / ((2 * (nr + nc)) * (2 * (nr + nc))))) sp wr td) := hD
        have hm9 := hm_le nr nc (tn nr nc ((cq / (2 * (nr + nc))) % (2 * (nr + nc))) (tn nr nc ((cq / ((2 * (nr + nc)) * (2 * (nr + nc)))) % (2 * (nr + nc))) pL)) pG
        refine n_cmp_ne (tgt := 122) hx hb dX5_leads_115 (by decide) (by omega) (by omega) (fun c115 => ?_) (fun c115 => ?_)
        · skip
          refine lv_iconst (v := nI 0) hx hb dX5_leads_122 (by decide) ?_
          subst hQ
          exact ret_i hx hb hr hlk (⟨tr1_8, mv1_8⟩) (bI_0 (by rw [ldN_3]; first | (simp only [c65_2, Bool.false_and, Bool.and_false, Bool.true_and, Bool.and_true]; done) | (simp only [c65_2, c65_3, Bool.false_and, Bool.and_false, Bool.true_and, Bool.and_true]; done) | (simp only [c65_2, c65_3, c104, Bool.false_and, Bool.and_false, Bool.true_and, Bool.and_true]; done) | (simp only [c65_2, c65_3, c104, decide_eq_true c115, Bool.false_and, Bool.and_false, Bool.true_and, Bool.and_true]; done) | (simp only [c65_2, c65_3, c104, decide_eq_false c115, Bool.false_and, Bool.and_false, Bool.true_and, Bool.and_true]; done) | (rw [c65_2] at c104; exact absurd c104 (by decide)) | (rw [c65_3] at c104; exact absurd c104 (by decide)))) hP hD hS rfl dX5_leads_123
        · skip
          refine lv_iconst (v := nI 1) hx hb dX5_leads_118 (by decide) ?_
          refine lv_goto (tgt := 123) hx hb dX5_leads_119 (by decide) ?_
          subst hQ
          exact ret_i hx hb hr hlk (⟨tr1_8, mv1_8⟩) (bI_1 (by rw [ldN_3]; first | (simp only [c65_2, Bool.false_and, Bool.and_false, Bool.true_and, Bool.and_true]; done) | (simp only [c65_2, c65_3, Bool.false_and, Bool.and_false, Bool.true_and, Bool.and_true]; done) | (simp only [c65_2, c65_3, c104, Bool.false_and, Bool.and_false, Bool.true_and, Bool.and_true]; done) | (simp only [c65_2, c65_3, c104, decide_eq_true c115, Bool.false_and, Bool.and_false, Bool.true_and, Bool.and_true]; done) | (simp only [c65_2, c65_3, c104, decide_eq_false c115, Bool.false_and, Bool.and_false, Bool.true_and, Bool.and_true]; done) | (rw [c65_2] at c104; exact absurd c104 (by decide)) | (rw [c65_3] at c104; exact absurd c104 (by decide)))) hP hD hS rfl dX5_leads_123
    · skip
      refine lv_iload_n hx hb dX5_leads_68 rfl (lv_at hl 6 rfl) ?_
      refine lv_iload hx hb dX5_leads_69 (lv_at hl 1 rfl) ?_
      refine n_idiv hx hb (by omega) (by omega) (by omega) dX5_leads_71 ?_
      refine lv_iload_n hx hb dX5_leads_72 rfl (lv_at hl 4 rfl) ?_
      refine n_irem hx hb (Nat.lt_of_le_of_lt (Nat.div_le_self _ _) (by omega)) (by omega) (by omega) dX5_leads_73 ?_
      refine lv_istore (lv' := [(7, .int (nI ((cq / 1) % (2 * (nr + nc))))), (6, .int (nI 2)), (4, .int (nI 1)), (5, .int (bI (!pB (((cq / (2 * (nr + nc))) % (2 * (nr + nc))) / 2)))), (3, .int (nI (2 * (nr + nc)))), (0, .ref mh), (1, .int (nI cq)), (2, .int (nI 3))]) hx hb dX5_leads_74 hl (by decide) rfl (fun ls hl => ?_)
      refine lv_aload_n hx hb dX5_leads_76 rfl (lv_at hl 5 rfl) ?_
      refine lv_iload hx hb dX5_leads_77 (lv_at hl 0 rfl) ?_
      refine callVi (As := [.int (nI ((cq / 1) % (2 * (nr + nc))))]) (rest := []) (wc := (MW G mh md nr nc pL pG pB pk bf hi sv ch hs inp ty er wy wd rf lt ln th tr1_8 mv1_8 (nI (cq / ((2 * (nr + nc)) * (2 * (nr + nc))))) sp wr td)) (wr := ([] : va_W)) ⟨hx, hb, hml, hown, hts⟩ (m_X5_isOpen l G mh md nr nc pL pG pB pk bf hi sv ch hs inp ty er wy wd rf lt ln th tr1_8 mv1_8 (nI (cq / ((2 * (nr + nc)) * (2 * (nr + nc))))) sp wr td ((cq / 1) % (2 * (nr + nc))) (Nat.lt_of_lt_of_le (Nat.mod_lt _ (by omega)) (by omega))) (cwV 1 hts (lw_V q1879 q1881 qs49 q105 q1882) rfl rfl rfl (by decide +kernel) ⟨Nat.le_of_ble_eq_true rfl, Nat.le_of_ble_eq_true rfl⟩) hK hZ hA hP hD hS [0, 1, 2, 3, 4, 5, 6, 7, 8, 9] [] rfl rfl (by decide) (by decide) (by decide) 0 4 rfl rfl rfl hl.1 (Nat.le_of_ble_eq_true rfl) ⟨Nat.le_of_ble_eq_true rfl, Nat.le_of_ble_eq_true rfl⟩ rfl dX5_leads_79 (fun r9 u9 H locs hw9 hP hD hS => ?_)
      subst hw9
      have hP : va_P G.1 CL (MW G mh md nr nc pL pG pB pk bf hi sv ch hs inp ty er wy wd rf lt ln th tr1_8 mv1_8 (nI (cq / ((2 * (nr + nc)) * (2 * (nr + nc))))) sp wr td) _ := hP
      have hD : va_D A (MW G mh md nr nc pL pG pB pk bf hi sv ch hs inp ty er wy wd rf lt ln th tr1_8 mv1_8 (nI (cq / ((2 * (nr + nc)) * (2 * (nr + nc))))) sp wr td) := hD
      refine lv_istore (lv' := [(5, .int (bI (!pB (((cq / 1) % (2 * (nr + nc))) / 2)))), (7, .int (nI ((cq / 1) % (2 * (nr + nc))))), (6, .int (nI 2)), (4, .int (nI 1)), (3, .int (nI (2 * (nr + nc)))), (0, .ref mh), (1, .int (nI cq)), (2, .int (nI 3))]) hx hb dX5_leads_82 hl (by decide) rfl (fun ls hl => ?_)
      refine lv_aload_n hx hb dX5_leads_84 rfl (lv_at hl 5 rfl) ?_
      refine lv_iload hx hb dX5_leads_85 (lv_at hl 1 rfl) ?_
      refine callVv (As := [.int (nI ((cq / 1) % (2 * (nr + nc))))]) (rest := []) (wc := (MW G mh md nr nc pL pG pB pk bf hi sv ch hs inp ty er wy wd rf lt ln th tr1_8 mv1_8 (nI (cq / ((2 * (nr + nc)) * (2 * (nr + nc))))) sp wr td)) (wr := ([] : va_W)) ⟨hx, hb, hml, hown, hts⟩ (m_X5_turnsTried l G mh md nr nc pL pG pB pk bf hi sv ch hs inp ty er wy wd rf lt ln th tr1_8 mv1_8 (nI (cq / ((2 * (nr + nc)) * (2 * (nr + nc))))) sp wr td ((cq / 1) % (2 * (nr + nc))) (tn nr nc ((cq / (2 * (nr + nc))) % (2 * (nr + nc))) (tn nr nc ((cq / ((2 * (nr + nc)) * (2 * (nr + nc)))) % (2 * (nr + nc))) pL)) (by first | assumption | omega) (Nat.mod_lt _ (by omega)) (by first | exact hw87 | exact hw48)) (cwV 1 hts (lw_V q1903 q1905 qs55 q105 q1906) rfl rfl rfl (by decide +kernel) ⟨Nat.le_of_ble_eq_true rfl, Nat.le_of_ble_eq_true rfl⟩) hK hZ hA hP hD hS [0, 1, 2, 3, 4, 5, 6, 7, 8, 9] [] rfl rfl (by decide) (by decide) (by decide) 0 4 rfl rfl rfl hl.1 (Nat.le_of_ble_eq_true rfl) ⟨Nat.le_of_ble_eq_true rfl, Nat.le_of_ble_eq_true rfl⟩ rfl dX5_leads_87 (fun u9 H locs hw9 hP hD hS => ?_)
      obtain ⟨tr1_12, mv1_12⟩ := u9
      have hw87 : ∀ q, q < nr * nc → tr1_12 q = tn nr nc ((cq / 1) % (2 * (nr + nc))) (tn nr nc ((cq / (2 * (nr + nc))) % (2 * (nr + nc))) (tn nr nc ((cq / ((2 * (nr + nc)) * (2 * (nr + nc)))) % (2 * (nr + nc))) pL)) q - 97 := hw9
      have hP : va_P G.1 CL (MW G mh md nr nc pL pG pB pk bf hi sv ch hs inp ty er wy wd rf lt ln th tr1_12 mv1_12 (nI (cq / ((2 * (nr + nc)) * (2 * (nr + nc))))) sp wr td) _ := hP
      have hD : va_D A (MW G mh md nr nc pL pG pB pk bf hi sv ch hs inp ty er wy wd rf lt ln th tr1_12 mv1_12 (nI (cq / ((2 * (nr + nc)) * (2 * (nr + nc))))) sp wr td) := hD
      refine lv_iload hx hb dX5_leads_90 (lv_at hl 3 rfl) ?_
      refine lv_iload_n hx hb dX5_leads_92 rfl (lv_at hl 4 rfl) ?_
      refine n_idiv hx hb (by omega) (by omega) (by omega) dX5_leads_93 ?_
      refine eq_i (y := nI 0) (congrArg nI (by first | exact Nat.mul_div_cancel _ (by omega) | exact Nat.div_self (by omega) | exact Nat.div_eq_of_lt (by omega))) ?_
      refine lv_istore (lv' := [(4, .int (nI 0)), (5, .int (bI (!pB (((cq / 1) % (2 * (nr + nc))) / 2)))), (7, .int (nI ((cq / 1) % (2 * (nr + nc))))), (6, .int (nI 2)), (3, .int (nI (2 * (nr + nc)))), (0, .ref mh), (1, .int (nI cq)), (2, .int (nI 3))]) hx hb dX5_leads_94 hl (by decide) rfl (fun ls hl => ?_)
      refine lv_iinc (v := nI 3) (lv' := [(6, .int (nI 3)), (4, .int (nI 0)), (5, .int (bI (!pB (((cq / 1) % (2 * (nr + nc))) / 2)))), (7, .int (nI ((cq / 1) % (2 * (nr + nc))))), (3, .int (nI (2 * (nr + nc)))), (0, .ref mh), (1, .int (nI cq)), (2, .int (nI 3))]) hx hb dX5_leads_96 hl (k := 3) rfl (by decide) (by decide) rfl (fun ls hl => ?_)
      refine lv_goto (tgt := 57) hx hb dX5_leads_99 (by decide) ?_
      refine lv_iload hx hb dX5_leads_57 (lv_at hl 0 rfl) ?_
      refine lv_iload_n hx hb dX5_leads_59 rfl (lv_at hl 7 rfl) ?_
      refine n_cmp_ge (tgt := 102) hx hb dX5_leads_60 (by decide) (by decide) (by decide) (fun c60_4 => ?_) (fun c60_4 => ?_)
      rotate_left
      · exact absurd c60_4 (by decide)
      refine lv_iload hx hb dX5_leads_102 (lv_at hl 2 rfl) ?_
      refine b_if_eq (tgt := 122) hx hb dX5_leads_104 (by decide) (fun c104 => ?_) (fun c104 => ?_)
      · skip
        refine lv_iconst (v := nI 0) hx hb dX5_leads_122 (by decide) ?_
        subst hQ
        exact ret_i hx hb hr hlk (⟨tr1_12, mv1_12⟩) (bI_0 (by rw [ldN_3]; first | (simp only [c65_2, Bool.false_and, Bool.and_false, Bool.true_and, Bool.and_true]; done) | (simp only [c65_2, c65_3, Bool.false_and, Bool.and_false, Bool.true_and, Bool.and_true]; done) | (simp only [c65_2, c65_3, c104, Bool.false_and, Bool.and_false, Bool.true_and, Bool.and_true]; done) | (simp only [c65_2, c65_3, c104, decide_eq_true c115, Bool.false_and, Bool.and_false, Bool.true_and, Bool.and_true]; done) | (simp only [c65_2, c65_3, c104, decide_eq_false c115, Bool.false_and, Bool.and_false, Bool.true_and, Bool.and_true]; done) | (rw [c65_2] at c104; exact absurd c104 (by decide)) | (rw [c65_3] at c104; exact absurd c104 (by decide)))) hP hD hS rfl dX5_leads_123
      · skip
        refine lv_aload_n hx hb dX5_leads_107 rfl (lv_at hl 5 rfl) ?_
        refine callVi (As := []) (rest := []) (wc := (MW G mh md nr nc pL pG pB pk bf hi sv ch hs inp ty er wy wd rf lt ln th tr1_12 mv1_12 (nI (cq / ((2 * (nr + nc)) * (2 * (nr + nc))))) sp wr td)) (wr := ([] : va_W)) ⟨hx, hb, hml, hown, hts⟩ (m_X5_homeTried l G mh md nr nc pL pG pB pk bf hi sv ch hs inp ty er wy wd rf lt ln th tr1_12 mv1_12 (nI (cq / ((2 * (nr + nc)) * (2 * (nr + nc))))) sp wr td (tn nr nc ((cq / 1) % (2 * (nr + nc))) (tn nr nc ((cq / (2 * (nr + nc))) % (2 * (nr + nc))) (tn nr nc ((cq / ((2 * (nr + nc)) * (2 * (nr + nc)))) % (2 * (nr + nc))) pL))) (by first | assumption | omega) (by first | exact hw87 | exact hw48) (tn_rg hd (Nat.mod_lt _ (by omega)) (tn_rg hd (Nat.mod_lt _ (by omega)) (tn_rg hd (Nat.mod_lt _ (by omega)) hLR))) (by first | assumption | omega)) (cwV 0 hts (lw_V q1895 q1897 qs53 q105 q1898) rfl rfl rfl (by decide +kernel) ⟨Nat.le_of_ble_eq_true rfl, Nat.le_of_ble_eq_true rfl⟩) hK hZ hA hP hD hS [0, 1, 2, 3, 4, 5, 6, 7, 8, 9] [] rfl rfl (by decide) (by decide) (by decide) 0 4 rfl rfl rfl hl.1 (Nat.le_of_ble_eq_true rfl) ⟨Nat.le_of_ble_eq_true rfl, Nat.le_of_ble_eq_true rfl⟩ rfl dX5_leads_108 (fun r9 u9 H locs hw9 hP hD hS => ?_)
        subst hw9
        have hP : va_P G.1 CL (MW G mh md nr nc pL pG pB pk bf hi sv ch hs inp ty er wy wd rf lt ln th tr1_12 mv1_12 (nI (cq / ((2 * (nr + nc)) * (2 * (nr + nc))))) sp wr td) _ := hP
        have hD : va_D A (MW G mh md nr nc pL pG pB pk bf hi sv ch hs inp ty er wy wd rf lt ln th tr1_12 mv1_12 (nI (cq / ((2 * (nr + nc)) * (2 * (nr + nc))))) sp wr td) := hD
        refine lv_aload_n hx hb dX5_leads_111 rfl (lv_at hl 5 rfl) ?_
        refine callVi (As := []) (rest := [.int (nI (hm nr nc (tn nr nc ((cq / 1) % (2 * (nr + nc))) (tn nr nc ((cq / (2 * (nr + nc))) % (2 * (nr + nc))) (tn nr nc ((cq / ((2 * (nr + nc)) * (2 * (nr + nc)))) % (2 * (nr + nc))) pL))) pG))]) (wc := (MW G mh md nr nc pL pG pB pk bf hi sv ch hs inp ty er wy wd rf lt ln th tr1_12 mv1_12 (nI (cq / ((2 * (nr + nc)) * (2 * (nr + nc))))) sp wr td)) (wr := ([] : va_W)) ⟨hx, hb, hml, hown, hts⟩ (m_X5_places l G mh md nr nc pL pG pB pk bf hi sv ch hs inp ty er wy wd rf lt ln th tr1_12 mv1_12 (nI (cq / ((2 * (nr + nc)) * (2 * (nr + nc))))) sp wr td ) (cwV 0 hts (lw_V q1817 q1819 qs38 q105 q1820) rfl rfl rfl (by decide +kernel) ⟨Nat.le_of_ble_eq_true rfl, Nat.le_of_ble_eq_true rfl⟩) hK hZ hA hP hD hS [0, 1, 2, 3, 4, 5, 6, 7, 8, 9] [] rfl rfl (by decide) (by decide) (by decide) 0 4 rfl rfl rfl hl.1 (Nat.le_of_ble_eq_true rfl) ⟨Nat.le_of_ble_eq_true rfl, Nat.le_of_ble_eq_true rfl⟩ rfl dX5_leads_112 (fun r9 u9 H locs hw9 hP hD hS => ?_)
        subst hw9
        have hP : va_P G.1 CL (MW G mh md nr nc pL pG pB pk bf hi sv ch hs inp ty er wy wd rf lt ln th tr1_12 mv1_12 (nI (cq / ((2 * (nr + nc)) * (2 * (nr + nc))))) sp wr td) _ := hP
        have hD : va_D A (MW G mh md nr nc pL pG pB pk bf hi sv ch hs inp ty er wy wd rf lt ln th tr1_12 mv1_12 (nI (cq / ((2 * (nr + nc)) * (2 * (nr + nc))))) sp wr td) := hD
        have hm9 := hm_le nr nc (tn nr nc ((cq / 1) % (2 * (nr + nc))) (tn nr nc ((cq / (2 * (nr + nc))) % (2 * (nr + nc))) (tn nr nc ((cq / ((2 * (nr + nc)) * (2 * (nr + nc)))) % (2 * (nr + nc))) pL))) pG
        refine n_cmp_ne (tgt := 122) hx hb dX5_leads_115 (by decide) (by omega) (by omega) (fun c115 => ?_) (fun c115 => ?_)
        · skip
          refine lv_iconst (v := nI 0) hx hb dX5_leads_122 (by decide) ?_
          subst hQ
          exact ret_i hx hb hr hlk (⟨tr1_12, mv1_12⟩) (bI_0 (by rw [ldN_3]; first | (simp only [c65_2, Bool.false_and, Bool.and_false, Bool.true_and, Bool.and_true]; done) | (simp only [c65_2, c65_3, Bool.false_and, Bool.and_false, Bool.true_and, Bool.and_true]; done) | (simp only [c65_2, c65_3, c104, Bool.false_and, Bool.and_false, Bool.true_and, Bool.and_true]; done) | (simp only [c65_2, c65_3, c104, decide_eq_true c115, Bool.false_and, Bool.and_false, Bool.true_and, Bool.and_true]; done) | (simp only [c65_2, c65_3, c104, decide_eq_false c115, Bool.false_and, Bool.and_false, Bool.true_and, Bool.and_true]; done) | (rw [c65_2] at c104; exact absurd c104 (by decide)) | (rw [c65_3] at c104; exact absurd c104 (by decide)))) hP hD hS rfl dX5_leads_123
        · skip
          refine lv_iconst (v := nI 1) hx hb dX5_leads_118 (by decide) ?_
          refine lv_goto (tgt := 123) hx hb dX5_leads_119 (by decide) ?_
          subst hQ
          exact ret_i hx hb hr hlk (⟨tr1_12, mv1_12⟩) (bI_1 (by rw [ldN_3]; first | (simp only [c65_2, Bool.false_and, Bool.and_false, Bool.true_and, Bool.and_true]; done) | (simp only [c65_2, c65_3, Bool.false_and, Bool.and_false, Bool.true_and, Bool.and_true]; done) | (simp only [c65_2, c65_3, c104, Bool.false_and, Bool.and_false, Bool.true_and, Bool.and_true]; done) | (simp only [c65_2, c65_3, c104, decide_eq_true c115, Bool.false_and, Bool.and_false, Bool.true_and, Bool.and_true]; done) | (simp only [c65_2, c65_3, c104, decide_eq_false c115, Bool.false_and, Bool.and_false, Bool.true_and, Bool.and_true]; done) | (rw [c65_2] at c104; exact absurd c104 (by decide)) | (rw [c65_3] at c104; exact absurd c104 (by decide)))) hP hD hS rfl dX5_leads_123
set_option maxHeartbeats 4000000 in
set_option maxRecDepth 100000 in
theorem m_X5_leads (l : Launch) (G : GG) (mh : Nat) (md : Nat → Nat) (nr : Nat) (nc : Nat) (pL : Nat → Nat) (pG : Nat → Nat) (pB : Nat → Bool) (pk : Nat → Int32) (bf : Nat → Int32) (hi : Nat → Int32) (sv : Nat → Int32) (ch : Nat) (hs : Bool) (inp : Nat → Nat) (ty : Nat) (er : Int32) (wy : Int32) (wd : Int32) (rf : Bool) (lt : Nat → Nat) (ln : Nat) (th : Int32) (tr : Nat → Nat) (mv : Nat → Nat) (fo : Int32) (sp : Nat) (wr : Bool) (td : Nat → Int32) (cq : Nat) (ll : Nat) (hd : 2 ≤ nr ∧ nr ≤ 3 ∧ 2 ≤ nc ∧ nc ≤ 3) (hcd : cq < 30000) (hll : ll ≤ 3) (hLR : ∀ q, q < nr * nc → 97 ≤ pL q ∧ pL q ≤ 108) (hKR : ∀ q, q < nr * nc → pG q = 46 ∨ (97 ≤ pG q ∧ pG q ≤ 108)) : MM l G yX5_leads cX5_leads 8 (some .boolean) ⟨2, 0, 0, 200⟩ [.ref mh, .int (nI cq), .int (nI ll)] (MW G mh md nr nc pL pG pB pk bf hi sv ch hs inp ty er wy wd rf lt ln th tr mv fo sp wr td) (Qi_ G (fun (r : Int32) (u : (Nat → Nat) × (Nat → Nat)) => r = bI (ldN nr nc pB pG cq ll pL)) (fun (u : (Nat → Nat) × (Nat → Nat)) => (MW G mh md nr nc pL pG pB pk bf hi sv ch hs inp ty er wy wd rf lt ln th u.1 u.2 (ldF nr nc cq ll) sp wr td))) := by
  rcases (show ll = 0 ∨ ll = 1 ∨ ll = 2 ∨ ll = 3 by omega) with rfl | rfl | rfl | rfl
  · rw [show ldF nr nc cq 0 = -1 from by rfl]
    exact m_X5_leads__0 l G mh md nr nc pL pG pB pk bf hi sv ch hs inp ty er wy wd rf lt ln th tr mv fo sp wr td cq hd hcd hLR hKR
  · rw [show ldF nr nc cq 1 = nI (cq / 1) from by (unfold ldF; rw [if_neg (by decide)]; simp only [Nat.reduceSub, Nat.pow_zero, Nat.pow_one, Nat.pow_two])]
    exact m_X5_leads__1 l G mh md nr nc pL pG pB pk bf hi sv ch hs inp ty er wy wd rf lt ln th tr mv fo sp wr td cq hd hcd hLR hKR
  · rw [show ldF nr nc cq 2 = nI (cq / (2 * (nr + nc))) from by (unfold ldF; rw [if_neg (by decide)]; simp only [Nat.reduceSub, Nat.pow_zero, Nat.pow_one, Nat.pow_two])]
    exact m_X5_leads__2 l G mh md nr nc pL pG pB pk bf hi sv ch hs inp ty er wy wd rf lt ln th tr mv fo sp wr td cq hd hcd hLR hKR
  · rw [show ldF nr nc cq 3 = nI (cq / ((2 * (nr + nc)) * (2 * (nr + nc)))) from by (unfold ldF; rw [if_neg (by decide)]; simp only [Nat.reduceSub, Nat.pow_zero, Nat.pow_one, Nat.pow_two])]
    exact m_X5_leads__3 l G mh md nr nc pL pG pB pk bf hi sv ch hs inp ty er wy wd rf lt ln th tr mv fo sp wr td cq hd hcd hLR hKR
set_option maxHeartbeats 4000000 in
set_option maxRecDepth 100000 in
theorem m_X5_shortest (l : Launch) (G : GG) (mh : Nat) (md : Nat → Nat) (nr : Nat) (nc : Nat) (pL : Nat → Nat) (pG : Nat → Nat) (pB : Nat → Bool) (pk : Nat → Int32) (bf : Nat → Int32) (hi : Nat → Int32) (sv : Nat → Int32) (ch : Nat) (hs : Bool) (inp : Nat → Nat) (ty : Nat) (er : Int32) (wy : Int32) (wd : Int32) (rf : Bool) (lt : Nat → Nat) (ln : Nat) (th : Int32) (tr : Nat → Nat) (mv : Nat → Nat) (fo : Int32) (sp : Nat) (wr : Bool) (td : Nat → Int32) (hd : 2 ≤ nr ∧ nr ≤ 3 ∧ 2 ≤ nc ∧ nc ≤ 3) (hLR : ∀ q, q < nr * nc → 97 ≤ pL q ∧ pL q ≤ 108) (hKR : ∀ q, q < nr * nc → pG q = 46 ∨ (97 ≤ pG q ∧ pG q ≤ 108)) : MM l G yX5_shortest cX5_shortest 4 (some .int) ⟨3, 0, 0, 227⟩ [.ref mh] (MW G mh md nr nc pL pG pB pk bf hi sv ch hs inp ty er wy wd rf lt ln th tr mv fo sp wr td) (Qi_ G (fun (r : Int32) (u : (Nat → Nat) × (Nat → Nat) × (Int32)) => (r = (oN 4 (awZ nr nc pL pG pB))) ∧ (1 ≤ awZ nr nc pL pG pB → awZ nr nc pL pG pB < 4 → u.2.2 = nI (ftN nr nc pB pL pG (awZ nr nc pL pG pB - 1)))) (fun (u : (Nat → Nat) × (Nat → Nat) × (Int32)) => (MW G mh md nr nc pL pG pB pk bf hi sv ch hs inp ty er wy wd rf lt ln th u.1 u.2.1 u.2.2 sp wr td))) := by
  refine MM.of (by decide) (Nat.le_of_ble_eq_true rfl) ?_
  intro p e s m args below meth cd A C hini hA hK hZ hP hD ls hl
  generalize hQ : MQ below ((Qi_ G (fun (r : Int32) (u : (Nat → Nat) × (Nat → Nat) × (Int32)) => (r = (oN 4 (awZ nr nc pL pG pB))) ∧ (1 ≤ awZ nr nc pL pG pB → awZ nr nc pL pG pB < 4 → u.2.2 = nI (ftN nr nc pB pL pG (awZ nr nc pL pG pB - 1)))) (fun (u : (Nat → Nat) × (Nat → Nat) × (Int32)) => (MW G mh md nr nc pL pG pB pk bf hi sv ch hs inp ty er wy wd rf lt ln th u.1 u.2.1 u.2.2 sp wr td))) A) args s (⟨3, 0, 0, 227⟩ : Room).cells (⟨3, 0, 0, 227⟩ : Room).slots A = Q
  obtain ⟨hx, hb, hr, hts, hown, hlk, hml⟩ := C
  have hown : s.vm.findClass RX5 = some m.cls := hown
  have hS : va_S A s.heap s.heap [] := va_S.rf
  have hl : lv_has ls 4 [(0, .ref mh)] := hl
  have hmu := dm_mul hd
  refine lv_iconst (v := nI 1) hx hb dX5_shortest_0 (by decide) ?_
  refine lv_istore_n (lv' := [(1, .int (nI 1)), (0, .ref mh)]) hx hb dX5_shortest_1 rfl hl (by decide) rfl (fun ls hl => ?_)
  refine lv_iconst (v := nI 0) hx hb dX5_shortest_2 (by decide) ?_
  refine lv_istore_n (lv' := [(2, .int (nI 0)), (1, .int (nI 1)), (0, .ref mh)]) hx hb dX5_shortest_3 rfl hl (by decide) rfl (fun ls hl => ?_)
  have lp4 : ∀ (f : Nat) (d : Nat) (mn : Nat) (tr2 : Nat → Nat) (mv2 : Nat → Nat) (fo2 : Int32), 4 - d < f → (d ≤ 4) → (mn = (2 * (nr + nc)) ^ d) → (∀ j, j < d → rch nr nc pB pG j pL = false) → ∀ (H : Heap) (locs : List Loc) (ls : Array Slot), va_P G.1 CL (MW G mh md nr nc pL pG pB pk bf hi sv ch hs inp ty er wy wd rf lt ln th tr2 mv2 fo2 sp wr td) H → va_D A (MW G mh md nr nc pL pG pB pk bf hi sv ch hs inp ty er wy wd rf lt ln th tr2 mv2 fo2 sp wr td) → va_S A s.heap H locs → lv_has ls 4 [(0, .ref mh), (1, .int (nI mn)), (2, .int (nI d))] → W p l e (⟨3, 0, 0, 227⟩ : Room) s m args below meth cd H locs 0 0 Q (F0 m 4 ls []) := by
    intro f
    induction f with
    | zero => intro d mn tr2 mv2 fo2 hf; exact absurd hf (Nat.not_lt_zero _)
    | succ f ih4 =>
      intro d mn tr2 mv2 fo2 hf hd4 hmn h0 H locs ls hP hD hS hl
      refine lv_iload_n hx hb dX5_shortest_4 rfl (lv_at hl 2 rfl) ?_
      refine lv_iconst (v := nI 4) hx hb dX5_shortest_5 (by decide) ?_
      refine n_cmp_ge (tgt := 48) hx hb dX5_shortest_6 (by decide) (by omega) (by omega) (fun c6 => ?_) (fun c6 => ?_)
      · skip
        refine lv_iconst (v := (-1)) hx hb dX5_shortest_48 (by decide) ?_
        subst hQ
        exact ret_i hx hb hr hlk (⟨tr2, mv2, fo2⟩) ⟨(by rw [awZ_4 (fun j hj => h0 j (by omega))]; rfl), (fun _ h9 => by rw [awZ_4 (fun j hj => h0 j (by omega))] at h9; omega)⟩ hP hD hS rfl dX5_shortest_49
      · skip
        refine lv_iconst (v := nI 0) hx hb dX5_shortest_9 (by decide) ?_
        refine lv_istore_n (lv' := [(3, .int (nI 0)), (0, .ref mh), (1, .int (nI mn)), (2, .int (nI d))]) hx hb dX5_shortest_10 rfl hl (by decide) rfl (fun ls hl => ?_)
        have lp11 : ∀ (f : Nat) (c : Nat) (tr3 : Nat → Nat) (mv3 : Nat → Nat) (fo3 : Int32), mn - c < f → (c ≤ mn) → (∀ c9, c9 < c → ldN nr nc pB pG c9 d pL = false) → ∀ (H : Heap) (locs : List Loc) (ls : Array Slot), va_P G.1 CL (MW G mh md nr nc pL pG pB pk bf hi sv ch hs inp ty er wy wd rf lt ln th tr3 mv3 fo3 sp wr td) H → va_D A (MW G mh md nr nc pL pG pB pk bf hi sv ch hs inp ty er wy wd rf lt ln th tr3 mv3 fo3 sp wr td) → va_S A s.heap H locs → lv_has ls 4 [(3, .int (nI c)), (0, .ref mh), (1, .int (nI mn)), (2, .int (nI d))] → W p l e (⟨3, 0, 0, 227⟩ : Room) s m args below meth cd H locs 0 0 Q (F0 m 11 ls []) := by
          intro f
          induction f with
          | zero => intro c tr3 mv3 fo3 hf; exact absurd hf (Nat.not_lt_zero _)
          | succ f ih11 =>
            intro c tr3 mv3 fo3 hf hc h1 H locs ls hP hD hS hl
            refine lv_iload_n hx hb dX5_shortest_11 rfl (lv_at hl 0 rfl) ?_
            refine lv_iload_n hx hb dX5_shortest_12 rfl (lv_at hl 2 rfl) ?_
            refine n_cmp_ge (tgt := 33) hx hb dX5_shortest_13 (by decide) (by have := T_pow hd (show d ≤ 4 by omega); omega) (by have := T_pow hd (show d ≤ 4 by omega); omega) (fun c13 => ?_) (fun c13 => ?_)
            · skip
              have hT8 := T_pow hd (show d + 1 ≤ 4 by omega)
              refine lv_iload_n hx hb dX5_shortest_33 rfl (lv_at hl 2 rfl) ?_
              refine lv_iconst (v := nI 2) hx hb dX5_shortest_34 (by decide) ?_
              refine lv_aload_n hx hb dX5_shortest_35 rfl (lv_at hl 1 rfl) ?_
              refine callVi (As := []) (rest := [.int (nI 2), .int (nI mn)]) (wc := (MW G mh md nr nc pL pG pB pk bf hi sv ch hs inp ty er wy wd rf lt ln th tr3 mv3 fo3 sp wr td)) (wr := ([] : va_W)) ⟨hx, hb, hml, hown, hts⟩ (m_X5_lines l G mh md nr nc pL pG pB pk bf hi sv ch hs inp ty er wy wd rf lt ln th tr3 mv3 fo3 sp wr td ) (cwV 0 hts (lw_V q1875 q1877 qs48 q105 q1878) rfl rfl rfl (by decide +kernel) ⟨Nat.le_of_ble_eq_true rfl, Nat.le_of_ble_eq_true rfl⟩) hK hZ hA hP hD hS [0, 1, 2, 3, 4, 5, 6, 7, 8, 9] [] rfl rfl (by decide) (by decide) (by decide) 0 4 rfl rfl rfl hl.1 (Nat.le_of_ble_eq_true rfl) ⟨Nat.le_of_ble_eq_true rfl, Nat.le_of_ble_eq_true rfl⟩ rfl dX5_shortest_36 (fun r9 u9 H locs hw9 hP hD hS => ?_)
              subst hw9
              have hP : va_P G.1 CL (MW G mh md nr nc pL pG pB pk bf hi sv ch hs inp ty er wy wd rf lt ln th tr3 mv3 fo3 sp wr td) _ := hP
              have hD : va_D A (MW G mh md nr nc pL pG pB pk bf hi sv ch hs inp ty er wy wd rf lt ln th tr3 mv3 fo3 sp wr td) := hD
              refine n_imul hx hb dX5_shortest_39 ?_
              refine n_imul hx hb dX5_shortest_40 ?_
              refine lv_istore_n (lv' := [(1, .int (nI (mn * (2 * (nr + nc))))), (3, .int (nI c)), (0, .ref mh), (2, .int (nI d))]) hx hb dX5_shortest_41 rfl hl (by decide) rfl (fun ls hl => ?_)
              refine lv_iinc (v := nI (d + 1)) (lv' := [(2, .int (nI (d + 1))), (1, .int (nI (mn * (2 * (nr + nc))))), (3, .int (nI c)), (0, .ref mh)]) hx hb dX5_shortest_42 hl (k := 3) rfl (nI_add _ _) (by decide) rfl (fun ls hl => ?_)
              refine lv_goto (tgt := 4) hx hb dX5_shortest_45 (by decide) ?_
              exact ih4 (d + 1) (mn * (2 * (nr + nc))) tr3 mv3 fo3 (by omega) (by omega) (by rw [hmn, Nat.pow_succ]) (fun j hj => by by_cases hj2 : j = d; (subst hj2; cases hr9 : rch nr nc pB pG j pL; rfl; (obtain ⟨c9, g1, g2⟩ := (ldN_rch (by omega) j pL).mpr hr9; rw [h1 c9 (by omega)] at g2; exact absurd g2 (by decide))); exact h0 j (by omega)) _ _ _ hP hD hS (lv_sub hl [3, 1, 0] rfl)
            · skip
              have hT9 := T_pow hd (show d ≤ 4 by omega)
              refine lv_aload_n hx hb dX5_shortest_16 rfl (lv_at hl 1 rfl) ?_
              refine lv_iload_n hx hb dX5_shortest_17 rfl (lv_at hl 0 rfl) ?_
              refine lv_iload_n hx hb dX5_shortest_18 rfl (lv_at hl 3 rfl) ?_
              refine callVi (As := [.int (nI c), .int (nI d)]) (rest := []) (wc := (MW G mh md nr nc pL pG pB pk bf hi sv ch hs inp ty er wy wd rf lt ln th tr3 mv3 fo3 sp wr td)) (wr := ([] : va_W)) ⟨hx, hb, hml, hown, hts⟩ (m_X5_leads l G mh md nr nc pL pG pB pk bf hi sv ch hs inp ty er wy wd rf lt ln th tr3 mv3 fo3 sp wr td c d (by first | assumption | omega) (by first | assumption | omega) (by first | assumption | omega) (by first | assumption | omega) (by first | assumption | omega)) (cwV 2 hts (lw_V q1951 q1953 qs63 q105 q1954) rfl rfl rfl (by decide +kernel) ⟨Nat.le_of_ble_eq_true rfl, Nat.le_of_ble_eq_true rfl⟩) hK hZ hA hP hD hS [0, 1, 2, 3, 4, 5, 6, 7, 8, 9] [] rfl rfl (by decide) (by decide) (by decide) 0 4 rfl rfl rfl hl.1 (Nat.le_of_ble_eq_true rfl) ⟨Nat.le_of_ble_eq_true rfl, Nat.le_of_ble_eq_true rfl⟩ rfl dX5_shortest_19 (fun r9 u9 H locs hw9 hP hD hS => ?_)
              obtain ⟨tr1_2, mv1_2⟩ := u9
              subst hw9
              have hP : va_P G.1 CL (MW G mh md nr nc pL pG pB pk bf hi sv ch hs inp ty er wy wd rf lt ln th tr1_2 mv1_2 (ldF nr nc c d) sp wr td) _ := hP
              have hD : va_D A (MW G mh md nr nc pL pG pB pk bf hi sv ch hs inp ty er wy wd rf lt ln th tr1_2 mv1_2 (ldF nr nc c d) sp wr td) := hD
              refine b_if_eq (tgt := 27) hx hb dX5_shortest_22 (by decide) (fun c22 => ?_) (fun c22 => ?_)
              · skip
                refine lv_iinc (v := nI (c + 1)) (lv' := [(3, .int (nI (c + 1))), (0, .ref mh), (1, .int (nI mn)), (2, .int (nI d))]) hx hb dX5_shortest_27 hl (k := 0) rfl (nI_add _ _) (by decide) rfl (fun ls hl => ?_)
                refine lv_goto (tgt := 11) hx hb dX5_shortest_30 (by decide) ?_
                exact ih11 (c + 1) tr1_2 mv1_2 (ldF nr nc c d) (by omega) (by omega) (fun c9 hc9 => by by_cases z : c9 = c; (rw [z]; exact c22); exact h1 c9 (by omega)) _ _ _ hP hD hS (lv_sub hl [0, 1, 2, 3] rfl)
              · skip
                refine lv_iload_n hx hb dX5_shortest_25 rfl (lv_at hl 3 rfl) ?_
                subst hQ
                exact ret_i hx hb hr hlk (⟨tr1_2, mv1_2, (ldF nr nc c d)⟩) ⟨(by rw [awZ_at (by omega) h0 ((ldN_rch (by omega) d pL).mp ⟨c, by omega, c22⟩), oN_lt (by omega)]), (fun h9 _ => by have e9 := awZ_at (by omega) h0 ((ldN_rch (by omega) d pL).mp ⟨c, by omega, c22⟩); rw [e9] at h9 ⊢; obtain ⟨d9, rfl⟩ : ∃ d9, d = d9 + 1 := ⟨d - 1, by omega⟩; show ldF nr nc c (d9 + 1) = _; unfold ldF; rw [if_neg (by omega), show d9 + 1 - 1 = d9 by omega, ldN_first (by omega) (by omega) c22 h1])⟩ hP hD hS rfl dX5_shortest_26
        exact lp11 _ 0 tr2 mv2 fo2 (Nat.lt_succ_self _) (by omega) (fun j hj => absurd hj (Nat.not_lt_zero _)) _ _ _ hP hD hS (lv_sub hl [0, 1, 2, 3] rfl)
  exact lp4 _ 0 1 tr mv fo (Nat.lt_succ_self _) (by omega) rfl (fun j hj => absurd hj (Nat.not_lt_zero _)) _ _ _ hP hD hS (lv_sub hl [2, 1, 0] rfl)
set_option maxHeartbeats 4000000 in
set_option maxRecDepth 100000 in
theorem m_X5_away (l : Launch) (G : GG) (mh : Nat) (md : Nat → Nat) (nr : Nat) (nc : Nat) (pL : Nat → Nat) (pG : Nat → Nat) (pB : Nat → Bool) (pk : Nat → Int32) (bf : Nat → Int32) (hi : Nat → Int32) (sv : Nat → Int32) (ch : Nat) (hs : Bool) (inp : Nat → Nat) (ty : Nat) (er : Int32) (wy : Int32) (wd : Int32) (rf : Bool) (lt : Nat → Nat) (ln : Nat) (th : Int32) (tr : Nat → Nat) (mv : Nat → Nat) (fo : Int32) (sp : Nat) (wr : Bool) (td : Nat → Int32) (az : Int32) (hd : 2 ≤ nr ∧ nr ≤ 3 ∧ 2 ≤ nc ∧ nc ≤ 3) (hLR : ∀ q, q < nr * nc → 97 ≤ pL q ∧ pL q ≤ 108) (hKR : ∀ q, q < nr * nc → pG q = 46 ∨ (97 ≤ pG q ∧ pG q ≤ 108)) : MM l G yX5_away cX5_away 3 (some .int) ⟨4, 0, 0, 250⟩ [.ref mh, .int az] (MW G mh md nr nc pL pG pB pk bf hi sv ch hs inp ty er wy wd rf lt ln th tr mv fo sp wr td) (Qi_ G (fun (r : Int32) (u : (Nat → Nat) × (Nat → Nat) × (Int32)) => r = (if (awZ nr nc pL pG pB) = 4 then nI 0 else nI (awZ nr nc pL pG pB))) (fun (u : (Nat → Nat) × (Nat → Nat) × (Int32)) => (MW G mh md nr nc pL pG pB pk bf hi sv ch hs inp ty er wy wd (if (awZ nr nc pL pG pB) = 4 then false else rf) lt ln (if (awZ nr nc pL pG pB) = 4 then nI 1 else nI 0) u.1 u.2.1 u.2.2 sp wr td))) := by
  refine MM.of (by decide) (Nat.le_of_ble_eq_true rfl) ?_
  intro p e s m args below meth cd A C hini hA hK hZ hP hD ls hl
  generalize hQ : MQ below ((Qi_ G (fun (r : Int32) (u : (Nat → Nat) × (Nat → Nat) × (Int32)) => r = (if (awZ nr nc pL pG pB) = 4 then nI 0 else nI (awZ nr nc pL pG pB))) (fun (u : (Nat → Nat) × (Nat → Nat) × (Int32)) => (MW G mh md nr nc pL pG pB pk bf hi sv ch hs inp ty er wy wd (if (awZ nr nc pL pG pB) = 4 then false else rf) lt ln (if (awZ nr nc pL pG pB) = 4 then nI 1 else nI 0) u.1 u.2.1 u.2.2 sp wr td))) A) args s (⟨4, 0, 0, 250⟩ : Room).cells (⟨4, 0, 0, 250⟩ : Room).slots A = Q
  obtain ⟨hx, hb, hr, hts, hown, hlk, hml⟩ := C
  have hown : s.vm.findClass RX5 = some m.cls := hown
  have hS : va_S A s.heap s.heap [] := va_S.rf
  have hl : lv_has ls 3 [(0, .ref mh), (1, .int az)] := hl
  have hmu := dm_mul hd
  have ha9 : awZ nr nc pL pG pB ≤ 4 := awN_le _
  refine lv_aload_n hx hb dX5_away_0 rfl (lv_at hl 0 rfl) ?_
  refine callVi (As := []) (rest := []) (wc := (MW G mh md nr nc pL pG pB pk bf hi sv ch hs inp ty er wy wd rf lt ln th tr mv fo sp wr td)) (wr := ([] : va_W)) ⟨hx, hb, hml, hown, hts⟩ (m_X5_shortest l G mh md nr nc pL pG pB pk bf hi sv ch hs inp ty er wy wd rf lt ln th tr mv fo sp wr td (by first | assumption | omega) (by first | assumption | omega) (by first | assumption | omega)) (cwV 0 hts (lw_V q1947 q1949 qs62 q105 q1950) rfl rfl rfl (by decide +kernel) ⟨Nat.le_of_ble_eq_true rfl, Nat.le_of_ble_eq_true rfl⟩) hK hZ hA hP hD hS [0, 1, 2, 3, 4, 5, 6, 7, 8, 9] [] rfl rfl (by decide) (by decide) (by decide) 0 4 rfl rfl rfl hl.1 (Nat.le_of_ble_eq_true rfl) ⟨Nat.le_of_ble_eq_true rfl, Nat.le_of_ble_eq_true rfl⟩ rfl dX5_away_1 (fun r9 u9 H locs hw9 hP hD hS => ?_)
  obtain ⟨tr1_1, mv1_1, fo1_1⟩ := u9
  obtain ⟨hr9, hw1⟩ := hw9
  subst hr9
  have hw1 : 1 ≤ awZ nr nc pL pG pB → awZ nr nc pL pG pB < 4 → fo1_1 = nI (ftN nr nc pB pL pG (awZ nr nc pL pG pB - 1)) := hw1
  have hP : va_P G.1 CL (MW G mh md nr nc pL pG pB pk bf hi sv ch hs inp ty er wy wd rf lt ln th tr1_1 mv1_1 fo1_1 sp wr td) _ := hP
  have hD : va_D A (MW G mh md nr nc pL pG pB pk bf hi sv ch hs inp ty er wy wd rf lt ln th tr1_1 mv1_1 fo1_1 sp wr td) := hD
  refine lv_istore_n (lv' := [(2, .int (oN 4 (awZ nr nc pL pG pB))), (0, .ref mh), (1, .int az)]) hx hb dX5_away_4 rfl hl (by decide) rfl (fun ls hl => ?_)
  refine lv_iload_n hx hb dX5_away_5 rfl (lv_at hl 0 rfl) ?_
  refine lv_iconst (v := (-1)) hx hb dX5_away_6 (by decide) ?_
  refine lv_icmp_ne (tgt := 18) hx hb dX5_away_7 (by decide) (fun c7 => ?_) (fun c7 => ?_)
  · skip
    have h49 : ¬ awZ nr nc pL pG pB = 4 := fun z => c7 (by rw [z]; rfl)
    refine lv_aload_n hx hb dX5_away_18 rfl (lv_at hl 1 rfl) ?_
    refine lv_iload_n hx hb dX5_away_19 rfl (lv_at hl 0 rfl) ?_
    refine callVi (As := [.int (oN 4 (awZ nr nc pL pG pB))]) (rest := []) (wc := (MW G mh md nr nc pL pG pB pk bf hi sv ch hs inp ty er wy wd rf lt ln th tr1_1 mv1_1 fo1_1 sp wr td)) (wr := ([] : va_W)) ⟨hx, hb, hml, hown, hts⟩ (m_X5_done l G mh md nr nc pL pG pB pk bf hi sv ch hs inp ty er wy wd rf lt ln th tr1_1 mv1_1 fo1_1 sp wr td (oN 4 (awZ nr nc pL pG pB)) ) (cwV 1 hts (lw_V q1821 q1823 qs39 q105 q1824) rfl rfl rfl (by decide +kernel) ⟨Nat.le_of_ble_eq_true rfl, Nat.le_of_ble_eq_true rfl⟩) hK hZ hA hP hD hS [0, 1, 2, 3, 4, 5, 6, 7, 8, 9] [] rfl rfl (by decide) (by decide) (by decide) 0 4 rfl rfl rfl hl.1 (Nat.le_of_ble_eq_true rfl) ⟨Nat.le_of_ble_eq_true rfl, Nat.le_of_ble_eq_true rfl⟩ rfl dX5_away_20 (fun r9 u9 H locs hw9 hP hD hS => ?_)
    subst hw9
    have hP : va_P G.1 CL (MW G mh md nr nc pL pG pB pk bf hi sv ch hs inp ty er wy wd rf lt ln (nI 0) tr1_1 mv1_1 fo1_1 sp wr td) _ := hP
    have hD : va_D A (MW G mh md nr nc pL pG pB pk bf hi sv ch hs inp ty er wy wd rf lt ln (nI 0) tr1_1 mv1_1 fo1_1 sp wr td) := hD
    have e_rf : rf = (if (awZ nr nc pL pG pB) = 4 then false else rf) := (if_neg h49).symm
    rw [e_rf] at hP hD
    have e_th : (nI 0) = (if (awZ nr nc pL pG pB) = 4 then nI 1 else nI 0) := (if_neg h49).symm
    rw [e_th] at hP hD
    subst hQ
    exact ret_i hx hb hr hlk (⟨tr1_1, mv1_1, fo1_1⟩) ((oN_lt (by omega)).trans (if_neg h49).symm) hP hD hS rfl dX5_away_23
  · skip
    have h49 : awZ nr nc pL pG pB = 4 := by rw [oN_m1 (by decide)] at c7; omega
    refine lv_aload_n hx hb dX5_away_10 rfl (lv_at hl 1 rfl) ?_
    refine lv_iconst (v := nI 1) hx hb dX5_away_11 (by decide) ?_
    refine callVi (As := [.int (nI 1)]) (rest := []) (wc := (MW G mh md nr nc pL pG pB pk bf hi sv ch hs inp ty er wy wd rf lt ln th tr1_1 mv1_1 fo1_1 sp wr td)) (wr := ([] : va_W)) ⟨hx, hb, hml, hown, hts⟩ (m_X5_fails l G mh md nr nc pL pG pB pk bf hi sv ch hs inp ty er wy wd rf lt ln th tr1_1 mv1_1 fo1_1 sp wr td (nI 1) ) (cwV 1 hts (lw_V q1813 q1815 qs37 q105 q1816) rfl rfl rfl (by decide +kernel) ⟨Nat.le_of_ble_eq_true rfl, Nat.le_of_ble_eq_true rfl⟩) hK hZ hA hP hD hS [0, 1, 2, 3, 4, 5, 6, 7, 8, 9] [] rfl rfl (by decide) (by decide) (by decide) 0 4 rfl rfl rfl hl.1 (Nat.le_of_ble_eq_true rfl) ⟨Nat.le_of_ble_eq_true rfl, Nat.le_of_ble_eq_true rfl⟩ rfl dX5_away_12 (fun r9 u9 H locs hw9 hP hD hS => ?_)
    subst hw9
    have hP : va_P G.1 CL (MW G mh md nr nc pL pG pB pk bf hi sv ch hs inp ty er wy wd false lt ln (nI 1) tr1_1 mv1_1 fo1_1 sp wr td) _ := hP
    have hD : va_D A (MW G mh md nr nc pL pG pB pk bf hi sv ch hs inp ty er wy wd false lt ln (nI 1) tr1_1 mv1_1 fo1_1 sp wr td) := hD
    refine lv_goto (tgt := 23) hx hb dX5_away_15 (by decide) ?_
    have e_rf : false = (if (awZ nr nc pL pG pB) = 4 then false else rf) := (if_pos h49).symm
    rw [e_rf] at hP hD
    have e_th : (nI 1) = (if (awZ nr nc pL pG pB) = 4 then nI 1 else nI 0) := (if_pos h49).symm
    rw [e_th] at hP hD
    subst hQ
    exact ret_i hx hb hr hlk (⟨tr1_1, mv1_1, fo1_1⟩) (if_pos h49).symm hP hD hS rfl dX5_away_23
set_option maxHeartbeats 4000000 in
set_option maxRecDepth 100000 in
theorem m_X5_firstTurn (l : Launch) (G : GG) (mh : Nat) (md : Nat → Nat) (nr : Nat) (nc : Nat) (pL : Nat → Nat) (pG : Nat → Nat) (pB : Nat → Bool) (pk : Nat → Int32) (bf : Nat → Int32) (hi : Nat → Int32) (sv : Nat → Int32) (ch : Nat) (hs : Bool) (inp : Nat → Nat) (ty : Nat) (er : Int32) (wy : Int32) (wd : Int32) (rf : Bool) (lt : Nat → Nat) (ln : Nat) (th : Int32) (tr : Nat → Nat) (mv : Nat → Nat) (fo : Int32) (sp : Nat) (wr : Bool) (td : Nat → Int32) (hd : 2 ≤ nr ∧ nr ≤ 3 ∧ 2 ≤ nc ∧ nc ≤ 3) (hLR : ∀ q, q < nr * nc → 97 ≤ pL q ∧ pL q ≤ 108) (hKR : ∀ q, q < nr * nc → pG q = 46 ∨ (97 ≤ pG q ∧ pG q ≤ 108)) : MM l G yX5_firstTurn cX5_firstTurn 2 (some .int) ⟨4, 0, 0, 250⟩ [.ref mh] (MW G mh md nr nc pL pG pB pk bf hi sv ch hs inp ty er wy wd rf lt ln th tr mv fo sp wr td) (Qi_ G (fun (r : Int32) (u : (Nat → Nat) × (Nat → Nat) × (Int32)) => r = (if 1 ≤ (awZ nr nc pL pG pB) ∧ (awZ nr nc pL pG pB) < 4 then nI (ftN nr nc pB pL pG ((awZ nr nc pL pG pB) - 1)) else nI 0)) (fun (u : (Nat → Nat) × (Nat → Nat) × (Int32)) => (MW G mh md nr nc pL pG pB pk bf hi sv ch hs inp ty er wy wd (if 1 ≤ (awZ nr nc pL pG pB) ∧ (awZ nr nc pL pG pB) < 4 then rf else false) lt ln (if 1 ≤ (awZ nr nc pL pG pB) ∧ (awZ nr nc pL pG pB) < 4 then nI 0 else nI 1) u.1 u.2.1 u.2.2 sp wr td))) := by
  refine MM.of (by decide) (Nat.le_of_ble_eq_true rfl) ?_
  intro p e s m args below meth cd A C hini hA hK hZ hP hD ls hl
  generalize hQ : MQ below ((Qi_ G (fun (r : Int32) (u : (Nat → Nat) × (Nat → Nat) × (Int32)) => r = (if 1 ≤ (awZ nr nc pL pG pB) ∧ (awZ nr nc pL pG pB) < 4 then nI (ftN nr nc pB pL pG ((awZ nr nc pL pG pB) - 1)) else nI 0)) (fun (u : (Nat → Nat) × (Nat → Nat) × (Int32)) => (MW G mh md nr nc pL pG pB pk bf hi sv ch hs inp ty er wy wd (if 1 ≤ (awZ nr nc pL pG pB) ∧ (awZ nr nc pL pG pB) < 4 then rf else false) lt ln (if 1 ≤ (awZ nr nc pL pG pB) ∧ (awZ nr nc pL pG pB) < 4 then nI 0 else nI 1) u.1 u.2.1 u.2.2 sp wr td))) A) args s (⟨4, 0, 0, 250⟩ : Room).cells (⟨4, 0, 0, 250⟩ : Room).slots A = Q
  obtain ⟨hx, hb, hr, hts, hown, hlk, hml⟩ := C
  have hown : s.vm.findClass RX5 = some m.cls := hown
  have hS : va_S A s.heap s.heap [] := va_S.rf
  have hl : lv_has ls 2 [(0, .ref mh)] := hl
  have hmu := dm_mul hd
  have ha9 : awZ nr nc pL pG pB ≤ 4 := awN_le _
  refine lv_aload_n hx hb dX5_firstTurn_0 rfl (lv_at hl 0 rfl) ?_
  refine callVi (As := []) (rest := []) (wc := (MW G mh md nr nc pL pG pB pk bf hi sv ch hs inp ty er wy wd rf lt ln th tr mv fo sp wr td)) (wr := ([] : va_W)) ⟨hx, hb, hml, hown, hts⟩ (m_X5_shortest l G mh md nr nc pL pG pB pk bf hi sv ch hs inp ty er wy wd rf lt ln th tr mv fo sp wr td (by first | assumption | omega) (by first | assumption | omega) (by first | assumption | omega)) (cwV 0 hts (lw_V q1947 q1949 qs62 q105 q1950) rfl rfl rfl (by decide +kernel) ⟨Nat.le_of_ble_eq_true rfl, Nat.le_of_ble_eq_true rfl⟩) hK hZ hA hP hD hS [0, 1, 2, 3, 4, 5, 6, 7, 8, 9] [] rfl rfl (by decide) (by decide) (by decide) 0 4 rfl rfl rfl hl.1 (Nat.le_of_ble_eq_true rfl) ⟨Nat.le_of_ble_eq_true rfl, Nat.le_of_ble_eq_true rfl⟩ rfl dX5_firstTurn_1 (fun r9 u9 H locs hw9 hP hD hS => ?_)
  obtain ⟨tr1_1, mv1_1, fo1_1⟩ := u9
  obtain ⟨hr9, hw1⟩ := hw9
  subst hr9
  have hw1 : 1 ≤ awZ nr nc pL pG pB → awZ nr nc pL pG pB < 4 → fo1_1 = nI (ftN nr nc pB pL pG (awZ nr nc pL pG pB - 1)) := hw1
  have hP : va_P G.1 CL (MW G mh md nr nc pL pG pB pk bf hi sv ch hs inp ty er wy wd rf lt ln th tr1_1 mv1_1 fo1_1 sp wr td) _ := hP
  have hD : va_D A (MW G mh md nr nc pL pG pB pk bf hi sv ch hs inp ty er wy wd rf lt ln th tr1_1 mv1_1 fo1_1 sp wr td) := hD
  refine lv_istore_n (lv' := [(1, .int (oN 4 (awZ nr nc pL pG pB))), (0, .ref mh)]) hx hb dX5_firstTurn_4 rfl hl (by decide) rfl (fun ls hl => ?_)
  refine lv_iload_n hx hb dX5_firstTurn_5 rfl (lv_at hl 0 rfl) ?_
  refine lv_iconst (v := nI 1) hx hb dX5_firstTurn_6 (by decide) ?_
  refine lv_icmp_ge (tgt := 18) hx hb dX5_firstTurn_7 (by decide) (fun c7 => ?_) (fun c7 => ?_)
  · skip
    have h49 : 1 ≤ awZ nr nc pL pG pB ∧ awZ nr nc pL pG pB < 4 := by by_cases h4 : awZ nr nc pL pG pB < 4; (rw [oN_lt h4] at c7; exact ⟨(nI_leI (by decide) (by omega)).mp c7, h4⟩); (rw [oN_ge h4] at c7; exact absurd c7 (by decide))
    refine lv_aload_n hx hb dX5_firstTurn_18 rfl (lv_at hl 1 rfl) ?_
    refine lv_aload_n hx hb dX5_firstTurn_19 rfl (lv_at hl 1 rfl) ?_
    refine va_get (D := G.1) (ci := 4) (v := .int fo1_1) (C := RX5) (T := TX5) (N := 21) hx hb hts in_X5 hown hK hP 0 rfl rfl 17 (by decide) (hts _ q1744) (fun _ h9 => h9) rfl dX5_firstTurn_20 ?_
    refine callVi (As := [.int fo1_1]) (rest := []) (wc := (MW G mh md nr nc pL pG pB pk bf hi sv ch hs inp ty er wy wd rf lt ln th tr1_1 mv1_1 fo1_1 sp wr td)) (wr := ([] : va_W)) ⟨hx, hb, hml, hown, hts⟩ (m_X5_done l G mh md nr nc pL pG pB pk bf hi sv ch hs inp ty er wy wd rf lt ln th tr1_1 mv1_1 fo1_1 sp wr td fo1_1 ) (cwV 1 hts (lw_V q1821 q1823 qs39 q105 q1824) rfl rfl rfl (by decide +kernel) ⟨Nat.le_of_ble_eq_true rfl, Nat.le_of_ble_eq_true rfl⟩) hK hZ hA hP hD hS [0, 1, 2, 3, 4, 5, 6, 7, 8, 9] [] rfl rfl (by decide) (by decide) (by decide) 0 4 rfl rfl rfl hl.1 (Nat.le_of_ble_eq_true rfl) ⟨Nat.le_of_ble_eq_true rfl, Nat.le_of_ble_eq_true rfl⟩ rfl dX5_firstTurn_23 (fun r9 u9 H locs hw9 hP hD hS => ?_)
    subst r9
    have hP : va_P G.1 CL (MW G mh md nr nc pL pG pB pk bf hi sv ch hs inp ty er wy wd rf lt ln (nI 0) tr1_1 mv1_1 fo1_1 sp wr td) _ := hP
    have hD : va_D A (MW G mh md nr nc pL pG pB pk bf hi sv ch hs inp ty er wy wd rf lt ln (nI 0) tr1_1 mv1_1 fo1_1 sp wr td) := hD
    have e_rf : rf = (if 1 ≤ (awZ nr nc pL pG pB) ∧ (awZ nr nc pL pG pB) < 4 then rf else false) := (if_pos h49).symm
    rw [e_rf] at hP hD
    have e_th : (nI 0) = (if 1 ≤ (awZ nr nc pL pG pB) ∧ (awZ nr nc pL pG pB) < 4 then nI 0 else nI 1) := (if_pos h49).symm
    rw [e_th] at hP hD
    subst hQ
    exact ret_i hx hb hr hlk (⟨tr1_1, mv1_1, fo1_1⟩) ((hw1 h49.1 h49.2).trans (if_pos h49).symm) hP hD hS rfl dX5_firstTurn_26
  · skip
    have h49 : ¬ (1 ≤ awZ nr nc pL pG pB ∧ awZ nr nc pL pG pB < 4) := fun z => by rw [oN_lt z.2] at c7; exact absurd ((nI_ltI (by omega) (by decide)).mp (Int32.not_le.mp c7)) (by omega)
    refine lv_aload_n hx hb dX5_firstTurn_10 rfl (lv_at hl 1 rfl) ?_
    refine lv_iconst (v := nI 1) hx hb dX5_firstTurn_11 (by decide) ?_
    refine callVi (As := [.int (nI 1)]) (rest := []) (wc := (MW G mh md nr nc pL pG pB pk bf hi sv ch hs inp ty er wy wd rf lt ln th tr1_1 mv1_1 fo1_1 sp wr td)) (wr := ([] : va_W)) ⟨hx, hb, hml, hown, hts⟩ (m_X5_fails l G mh md nr nc pL pG pB pk bf hi sv ch hs inp ty er wy wd rf lt ln th tr1_1 mv1_1 fo1_1 sp wr td (nI 1) ) (cwV 1 hts (lw_V q1813 q1815 qs37 q105 q1816) rfl rfl rfl (by decide +kernel) ⟨Nat.le_of_ble_eq_true rfl, Nat.le_of_ble_eq_true rfl⟩) hK hZ hA hP hD hS [0, 1, 2, 3, 4, 5, 6, 7, 8, 9] [] rfl rfl (by decide) (by decide) (by decide) 0 4 rfl rfl rfl hl.1 (Nat.le_of_ble_eq_true rfl) ⟨Nat.le_of_ble_eq_true rfl, Nat.le_of_ble_eq_true rfl⟩ rfl dX5_firstTurn_12 (fun r9 u9 H locs hw9 hP hD hS => ?_)
    subst hw9
    have hP : va_P G.1 CL (MW G mh md nr nc pL pG pB pk bf hi sv ch hs inp ty er wy wd false lt ln (nI 1) tr1_1 mv1_1 fo1_1 sp wr td) _ := hP
    have hD : va_D A (MW G mh md nr nc pL pG pB pk bf hi sv ch hs inp ty er wy wd false lt ln (nI 1) tr1_1 mv1_1 fo1_1 sp wr td) := hD
    refine lv_goto (tgt := 26) hx hb dX5_firstTurn_15 (by decide) ?_
    have e_rf : false = (if 1 ≤ (awZ nr nc pL pG pB) ∧ (awZ nr nc pL pG pB) < 4 then rf else false) := (if_neg h49).symm
    rw [e_rf] at hP hD
    have e_th : (nI 1) = (if 1 ≤ (awZ nr nc pL pG pB) ∧ (awZ nr nc pL pG pB) < 4 then nI 0 else nI 1) := (if_neg h49).symm
    rw [e_th] at hP hD
    subst hQ
    exact ret_i hx hb hr hlk (⟨tr1_1, mv1_1, fo1_1⟩) (if_neg h49).symm hP hD hS rfl dX5_firstTurn_26
set_option maxHeartbeats 4000000 in
set_option maxRecDepth 100000 in
theorem m_X5_timesOf__L (l : Launch) (G : GG) (mh : Nat) (md : Nat → Nat) (nr : Nat) (nc : Nat) (pL : Nat → Nat) (pG : Nat → Nat) (pB : Nat → Bool) (pk : Nat → Int32) (bf : Nat → Int32) (hi : Nat → Int32) (sv : Nat → Int32) (ch : Nat) (hs : Bool) (inp : Nat → Nat) (ty : Nat) (er : Int32) (wy : Int32) (wd : Int32) (rf : Bool) (lt : Nat → Nat) (ln : Nat) (th : Int32) (tr : Nat → Nat) (mv : Nat → Nat) (fo : Int32) (sp : Nat) (wr : Bool) (td : Nat → Int32) (tv : Nat) (hd : 2 ≤ nr ∧ nr ≤ 3 ∧ 2 ≤ nc ∧ nc ≤ 3) (htv : tv < 12) (hLR : ∀ q, q < nr * nc → 97 ≤ pL q ∧ pL q ≤ 108) : MM l G yX5_timesOf cX5_timesOf 5 (some .int) ⟨1, 0, 0, 20⟩ [.ref mh, .int (nI 14), .int (nI tv)] (MW G mh md nr nc pL pG pB pk bf hi sv ch hs inp ty er wy wd rf lt ln th tr mv fo sp wr td) (Qi_ G (fun (r : Int32) (_ : Unit) => r = nI (tm pL (nr * nc) (97 + tv))) (fun (_ : Unit) => (MW G mh md nr nc pL pG pB pk bf hi sv ch hs inp ty er wy wd rf lt ln th tr mv fo sp wr td))) := by
  refine MM.of (by decide) (Nat.le_of_ble_eq_true rfl) ?_
  intro p e s m args below meth cd A C hini hA hK hZ hP hD ls hl
  generalize hQ : MQ below ((Qi_ G (fun (r : Int32) (_ : Unit) => r = nI (tm pL (nr * nc) (97 + tv))) (fun (_ : Unit) => (MW G mh md nr nc pL pG pB pk bf hi sv ch hs inp ty er wy wd rf lt ln th tr mv fo sp wr td))) A) args s (⟨1, 0, 0, 20⟩ : Room).cells (⟨1, 0, 0, 20⟩ : Room).slots A = Q
  obtain ⟨hx, hb, hr, hts, hown, hlk, hml⟩ := C
  have hown : s.vm.findClass RX5 = some m.cls := hown
  have hS : va_S A s.heap s.heap [] := va_S.rf
  have hl : lv_has ls 5 [(0, .ref mh), (1, .int (nI 14)), (2, .int (nI tv))] := hl
  have hmu := dm_mul hd
  refine lv_iconst (v := nI 0) hx hb dX5_timesOf_0 (by decide) ?_
  refine lv_istore_n (lv' := [(3, .int (nI 0)), (0, .ref mh), (1, .int (nI 14)), (2, .int (nI tv))]) hx hb dX5_timesOf_1 rfl hl (by decide) rfl (fun ls hl => ?_)
  refine lv_iconst (v := nI 0) hx hb dX5_timesOf_2 (by decide) ?_
  refine lv_istore (lv' := [(4, .int (nI 0)), (3, .int (nI 0)), (0, .ref mh), (1, .int (nI 14)), (2, .int (nI tv))]) hx hb dX5_timesOf_3 hl (by decide) rfl (fun ls hl => ?_)
  have lp5 : ∀ (f : Nat) (i : Nat) (n : Nat), nr * nc - i < f → (i ≤ nr * nc) → (n = cn (fun k => decide (pL k = (97 + tv))) i) → ∀ (H : Heap) (locs : List Loc) (ls : Array Slot), va_P G.1 CL (MW G mh md nr nc pL pG pB pk bf hi sv ch hs inp ty er wy wd rf lt ln th tr mv fo sp wr td) H → va_D A (MW G mh md nr nc pL pG pB pk bf hi sv ch hs inp ty er wy wd rf lt ln th tr mv fo sp wr td) → va_S A s.heap H locs → lv_has ls 5 [(4, .int (nI i)), (3, .int (nI n)), (0, .ref mh), (1, .int (nI 14)), (2, .int (nI tv))] → W p l e (⟨1, 0, 0, 20⟩ : Room) s m args below meth cd H locs 0 0 Q (F0 m 5 ls []) := by
    intro f
    induction f with
    | zero => intro i n hf; exact absurd hf (Nat.not_lt_zero _)
    | succ f ih5 =>
      intro i n hf hi9 hn H locs ls hP hD hS hl
      refine lv_iload hx hb dX5_timesOf_5 (lv_at hl 0 rfl) ?_
      refine lv_aload_n hx hb dX5_timesOf_7 rfl (lv_at hl 2 rfl) ?_
      refine callVi (As := []) (rest := [.int (nI i)]) (wc := (MW G mh md nr nc pL pG pB pk bf hi sv ch hs inp ty er wy wd rf lt ln th tr mv fo sp wr td)) (wr := ([] : va_W)) ⟨hx, hb, hml, hown, hts⟩ (m_X5_places l G mh md nr nc pL pG pB pk bf hi sv ch hs inp ty er wy wd rf lt ln th tr mv fo sp wr td ) (cwV 0 hts (lw_V q1817 q1819 qs38 q105 q1820) rfl rfl rfl (by decide +kernel) ⟨Nat.le_of_ble_eq_true rfl, Nat.le_of_ble_eq_true rfl⟩) hK hZ hA hP hD hS [0, 1, 2, 3, 4, 5, 6, 7, 8, 9] [] rfl rfl (by decide) (by decide) (by decide) 0 4 rfl rfl rfl hl.1 (Nat.le_of_ble_eq_true rfl) ⟨Nat.le_of_ble_eq_true rfl, Nat.le_of_ble_eq_true rfl⟩ rfl dX5_timesOf_8 (fun r9 u9 H locs hw9 hP hD hS => ?_)
      subst hw9
      have hP : va_P G.1 CL (MW G mh md nr nc pL pG pB pk bf hi sv ch hs inp ty er wy wd rf lt ln th tr mv fo sp wr td) _ := hP
      have hD : va_D A (MW G mh md nr nc pL pG pB pk bf hi sv ch hs inp ty er wy wd rf lt ln th tr mv fo sp wr td) := hD
      refine n_cmp_ge (tgt := 41) hx hb dX5_timesOf_11 (by decide) (by omega) (by omega) (fun c11 => ?_) (fun c11 => ?_)
      · skip
        refine lv_iload_n hx hb dX5_timesOf_41 rfl (lv_at hl 1 rfl) ?_
        subst hQ
        exact ret_i hx hb hr hlk () (by rw [hn, tm, show i = nr * nc by omega]) hP hD hS rfl dX5_timesOf_42
      · skip
        refine lv_iload_n hx hb dX5_timesOf_14 rfl (lv_at hl 1 rfl) ?_
        refine lv_aload_n hx hb dX5_timesOf_15 rfl (lv_at hl 2 rfl) ?_
        refine va_get (D := G.1) (ci := 4) (v := .ref (md 0)) (C := RX5) (T := TX5) (N := 21) hx hb hts in_X5 hown hK hP 0 rfl rfl 0 (by decide) (hts _ q1727) (fun _ h9 => h9) rfl dX5_timesOf_16 ?_
        refine lv_iload_n hx hb dX5_timesOf_19 rfl (lv_at hl 3 rfl) ?_
        refine lv_iload hx hb dX5_timesOf_20 (lv_at hl 0 rfl) ?_
        refine n_iadd hx hb dX5_timesOf_22 ?_
        refine r_iald hx hb hK hP 1 3 rfl rfl (by omega) (by decide) dX5_timesOf_23 ?_
        refine eq_i (y := nI (pL i - 97)) (gZ_c (by omega)) ?_
        refine lv_iload_n hx hb dX5_timesOf_24 rfl (lv_at hl 4 rfl) ?_
        refine n_cmp_ne (tgt := 32) hx hb dX5_timesOf_25 (by decide) (by have := hLR i (by omega); omega) (by omega) (fun c25 => ?_) (fun c25 => ?_)
        · skip
          refine lv_iconst (v := nI 0) hx hb dX5_timesOf_32 (by decide) ?_
          refine n_iadd hx hb dX5_timesOf_33 ?_
          refine lv_istore_n (lv' := [(3, .int (nI (n + 0))), (4, .int (nI i)), (0, .ref mh), (1, .int (nI 14)), (2, .int (nI tv))]) hx hb dX5_timesOf_34 rfl hl (by decide) rfl (fun ls hl => ?_)
          refine lv_iinc (v := nI (i + 1)) (lv' := [(4, .int (nI (i + 1))), (3, .int (nI (n + 0))), (0, .ref mh), (1, .int (nI 14)), (2, .int (nI tv))]) hx hb dX5_timesOf_35 hl (k := 1) rfl (nI_add _ _) (by decide) rfl (fun ls hl => ?_)
          refine lv_goto (tgt := 5) hx hb dX5_timesOf_38 (by decide) ?_
          exact ih5 (i + 1) (n + 0) (by omega) (by omega) (by rw [hn]; exact cn_f (decide_eq_false (show ¬ pL i = 97 + tv by have := hLR i (by omega); omega))) _ _ _ hP hD hS (lv_sub hl [0, 1, 2, 3, 4] rfl)
        · skip
          refine lv_iconst (v := nI 1) hx hb dX5_timesOf_28 (by decide) ?_
          refine lv_goto (tgt := 33) hx hb dX5_timesOf_29 (by decide) ?_
          refine n_iadd hx hb dX5_timesOf_33 ?_
          refine lv_istore_n (lv' := [(3, .int (nI (n + 1))), (4, .int (nI i)), (0, .ref mh), (1, .int (nI 14)), (2, .int (nI tv))]) hx hb dX5_timesOf_34 rfl hl (by decide) rfl (fun ls hl => ?_)
          refine lv_iinc (v := nI (i + 1)) (lv' := [(4, .int (nI (i + 1))), (3, .int (nI (n + 1))), (0, .ref mh), (1, .int (nI 14)), (2, .int (nI tv))]) hx hb dX5_timesOf_35 hl (k := 1) rfl (nI_add _ _) (by decide) rfl (fun ls hl => ?_)
          refine lv_goto (tgt := 5) hx hb dX5_timesOf_38 (by decide) ?_
          exact ih5 (i + 1) (n + 1) (by omega) (by omega) (by rw [hn]; exact cn_t (decide_eq_true (show pL i = 97 + tv by have := hLR i (by omega); omega))) _ _ _ hP hD hS (lv_sub hl [0, 1, 2, 3, 4] rfl)
  exact lp5 _ 0 0 (Nat.lt_succ_self _) (by omega) rfl _ _ _ hP hD hS (lv_sub hl [0, 1, 2, 3, 4] rfl)
set_option maxHeartbeats 4000000 in
set_option maxRecDepth 100000 in
theorem m_X5_timesOf__G (l : Launch) (G : GG) (mh : Nat) (md : Nat → Nat) (nr : Nat) (nc : Nat) (pL : Nat → Nat) (pG : Nat → Nat) (pB : Nat → Bool) (pk : Nat → Int32) (bf : Nat → Int32) (hi : Nat → Int32) (sv : Nat → Int32) (ch : Nat) (hs : Bool) (inp : Nat → Nat) (ty : Nat) (er : Int32) (wy : Int32) (wd : Int32) (rf : Bool) (lt : Nat → Nat) (ln : Nat) (th : Int32) (tr : Nat → Nat) (mv : Nat → Nat) (fo : Int32) (sp : Nat) (wr : Bool) (td : Nat → Int32) (tv : Nat) (hd : 2 ≤ nr ∧ nr ≤ 3 ∧ 2 ≤ nc ∧ nc ≤ 3) (htv : tv < 12) (hKR : ∀ q, q < nr * nc → pG q = 46 ∨ (97 ≤ pG q ∧ pG q ≤ 108)) : MM l G yX5_timesOf cX5_timesOf 5 (some .int) ⟨1, 0, 0, 20⟩ [.ref mh, .int (nI 23), .int (nI tv)] (MW G mh md nr nc pL pG pB pk bf hi sv ch hs inp ty er wy wd rf lt ln th tr mv fo sp wr td) (Qi_ G (fun (r : Int32) (_ : Unit) => r = nI (tm pG (nr * nc) (97 + tv))) (fun (_ : Unit) => (MW G mh md nr nc pL pG pB pk bf hi sv ch hs inp ty er wy wd rf lt ln th tr mv fo sp wr td))) := by
  refine MM.of (by decide) (Nat.le_of_ble_eq_true rfl) ?_
  intro p e s m args below meth cd A C hini hA hK hZ hP hD ls hl
  generalize hQ : MQ below ((Qi_ G (fun (r : Int32) (_ : Unit) => r = nI (tm pG (nr * nc) (97 + tv))) (fun (_ : Unit) => (MW G mh md nr nc pL pG pB pk bf hi sv ch hs inp ty er wy wd rf lt ln th tr mv fo sp wr td))) A) args s (⟨1, 0, 0, 20⟩ : Room).cells (⟨1, 0, 0, 20⟩ : Room).slots A = Q
  obtain ⟨hx, hb, hr, hts, hown, hlk, hml⟩ := C
  have hown : s.vm.findClass RX5 = some m.cls := hown
  have hS : va_S A s.heap s.heap [] := va_S.rf
  have hl : lv_has ls 5 [(0, .ref mh), (1, .int (nI 23)), (2, .int (nI tv))] := hl
  have hmu := dm_mul hd
  refine lv_iconst (v := nI 0) hx hb dX5_timesOf_0 (by decide) ?_
  refine lv_istore_n (lv' := [(3, .int (nI 0)), (0, .ref mh), (1, .int (nI 23)), (2, .int (nI tv))]) hx hb dX5_timesOf_1 rfl hl (by decide) rfl (fun ls hl => ?_)
  refine lv_iconst (v := nI 0) hx hb dX5_timesOf_2 (by decide) ?_
  refine lv_istore (lv' := [(4, .int (nI 0)), (3, .int (nI 0)), (0, .ref mh), (1, .int (nI 23)), (2, .int (nI tv))]) hx hb dX5_timesOf_3 hl (by decide) rfl (fun ls hl => ?_)
  have lp5 : ∀ (f : Nat) (i : Nat) (n : Nat), nr * nc - i < f → (i ≤ nr * nc) → (n = cn (fun k => decide (pG k = (97 + tv))) i) → ∀ (H : Heap) (locs : List Loc) (ls : Array Slot), va_P G.1 CL (MW G mh md nr nc pL pG pB pk bf hi sv ch hs inp ty er wy wd rf lt ln th tr mv fo sp wr td) H → va_D A (MW G mh md nr nc pL pG pB pk bf hi sv ch hs inp ty er wy wd rf lt ln th tr mv fo sp wr td) → va_S A s.heap H locs → lv_has ls 5 [(4, .int (nI i)), (3, .int (nI n)), (0, .ref mh), (1, .int (nI 23)), (2, .int (nI tv))] → W p l e (⟨1, 0, 0, 20⟩ : Room) s m args below meth cd H locs 0 0 Q (F0 m 5 ls []) := by
    intro f
    induction f with
    | zero => intro i n hf; exact absurd hf (Nat.not_lt_zero _)
    | succ f ih5 =>
      intro i n hf hi9 hn H locs ls hP hD hS hl
      refine lv_iload hx hb dX5_timesOf_5 (lv_at hl 0 rfl) ?_
      refine lv_aload_n hx hb dX5_timesOf_7 rfl (lv_at hl 2 rfl) ?_
      refine callVi (As := []) (rest := [.int (nI i)]) (wc := (MW G mh md nr nc pL pG pB pk bf hi sv ch hs inp ty er wy wd rf lt ln th tr mv fo sp wr td)) (wr := ([] : va_W)) ⟨hx, hb, hml, hown, hts⟩ (m_X5_places l G mh md nr nc pL pG pB pk bf hi sv ch hs inp ty er wy wd rf lt ln th tr mv fo sp wr td ) (cwV 0 hts (lw_V q1817 q1819 qs38 q105 q1820) rfl rfl rfl (by decide +kernel) ⟨Nat.le_of_ble_eq_true rfl, Nat.le_of_ble_eq_true rfl⟩) hK hZ hA hP hD hS [0, 1, 2, 3, 4, 5, 6, 7, 8, 9] [] rfl rfl (by decide) (by decide) (by decide) 0 4 rfl rfl rfl hl.1 (Nat.le_of_ble_eq_true rfl) ⟨Nat.le_of_ble_eq_true rfl, Nat.le_of_ble_eq_true rfl⟩ rfl dX5_timesOf_8 (fun r9 u9 H locs hw9 hP hD hS => ?_)
      subst hw9
      have hP : va_P G.1 CL (MW G mh md nr nc pL pG pB pk bf hi sv ch hs inp ty er wy wd rf lt ln th tr mv fo sp wr td) _ := hP
      have hD : va_D A (MW G mh md nr nc pL pG pB pk bf hi sv ch hs inp ty er wy wd rf lt ln th tr mv fo sp wr td) := hD
      refine n_cmp_ge (tgt := 41) hx hb dX5_timesOf_11 (by decide) (by omega) (by omega) (fun c11 => ?_) (fun c11 => ?_)
      · skip
        refine lv_iload_n hx hb dX5_timesOf_41 rfl (lv_at hl 1 rfl) ?_
        subst hQ
        exact ret_i hx hb hr hlk () (by rw [hn, tm, show i = nr * nc by omega]) hP hD hS rfl dX5_timesOf_42
      · skip
        refine lv_iload_n hx hb dX5_timesOf_14 rfl (lv_at hl 1 rfl) ?_
        refine lv_aload_n hx hb dX5_timesOf_15 rfl (lv_at hl 2 rfl) ?_
        refine va_get (D := G.1) (ci := 4) (v := .ref (md 0)) (C := RX5) (T := TX5) (N := 21) hx hb hts in_X5 hown hK hP 0 rfl rfl 0 (by decide) (hts _ q1727) (fun _ h9 => h9) rfl dX5_timesOf_16 ?_
        refine lv_iload_n hx hb dX5_timesOf_19 rfl (lv_at hl 3 rfl) ?_
        refine lv_iload hx hb dX5_timesOf_20 (lv_at hl 0 rfl) ?_
        refine n_iadd hx hb dX5_timesOf_22 ?_
        refine r_iald hx hb hK hP 1 3 rfl rfl (by omega) (by decide) dX5_timesOf_23 ?_
        refine eq_i (y := (gk (pG i))) (gZ_k (by omega)) ?_
        refine lv_iload_n hx hb dX5_timesOf_24 rfl (lv_at hl 4 rfl) ?_
        refine lv_icmp_ne (tgt := 32) hx hb dX5_timesOf_25 (by decide) (fun c25 => ?_) (fun c25 => ?_)
        · skip
          refine lv_iconst (v := nI 0) hx hb dX5_timesOf_32 (by decide) ?_
          refine n_iadd hx hb dX5_timesOf_33 ?_
          refine lv_istore_n (lv' := [(3, .int (nI (n + 0))), (4, .int (nI i)), (0, .ref mh), (1, .int (nI 23)), (2, .int (nI tv))]) hx hb dX5_timesOf_34 rfl hl (by decide) rfl (fun ls hl => ?_)
          refine lv_iinc (v := nI (i + 1)) (lv' := [(4, .int (nI (i + 1))), (3, .int (nI (n + 0))), (0, .ref mh), (1, .int (nI 23)), (2, .int (nI tv))]) hx hb dX5_timesOf_35 hl (k := 1) rfl (nI_add _ _) (by decide) rfl (fun ls hl => ?_)
          refine lv_goto (tgt := 5) hx hb dX5_timesOf_38 (by decide) ?_
          exact ih5 (i + 1) (n + 0) (by omega) (by omega) (by rw [hn]; exact cn_f (decide_eq_false (fun z => c25 ((gk_nI (hKR i (by omega)) htv).mpr z)))) _ _ _ hP hD hS (lv_sub hl [0, 1, 2, 3, 4] rfl)
        · skip
          refine lv_iconst (v := nI 1) hx hb dX5_timesOf_28 (by decide) ?_
          refine lv_goto (tgt := 33) hx hb dX5_timesOf_29 (by decide) ?_
          refine n_iadd hx hb dX5_timesOf_33 ?_
          refine lv_istore_n (lv' := [(3, .int (nI (n + 1))), (4, .int (nI i)), (0, .ref mh), (1, .int (nI 23)), (2, .int (nI tv))]) hx hb dX5_timesOf_34 rfl hl (by decide) rfl (fun ls hl => ?_)
          refine lv_iinc (v := nI (i + 1)) (lv' := [(4, .int (nI (i + 1))), (3, .int (nI (n + 1))), (0, .ref mh), (1, .int (nI 23)), (2, .int (nI tv))]) hx hb dX5_timesOf_35 hl (k := 1) rfl (nI_add _ _) (by decide) rfl (fun ls hl => ?_)
          refine lv_goto (tgt := 5) hx hb dX5_timesOf_38 (by decide) ?_
          exact ih5 (i + 1) (n + 1) (by omega) (by omega) (by rw [hn]; exact cn_t (decide_eq_true ((gk_nI (hKR i (by omega)) htv).mp c25))) _ _ _ hP hD hS (lv_sub hl [0, 1, 2, 3, 4] rfl)
  exact lp5 _ 0 0 (Nat.lt_succ_self _) (by omega) rfl _ _ _ hP hD hS (lv_sub hl [0, 1, 2, 3, 4] rfl)
set_option maxHeartbeats 4000000 in
set_option maxRecDepth 100000 in
theorem m_X5_timesOf__F (l : Launch) (G : GG) (mh : Nat) (md : Nat → Nat) (nr : Nat) (nc : Nat) (pL : Nat → Nat) (pG : Nat → Nat) (pB : Nat → Bool) (pk : Nat → Int32) (bf : Nat → Int32) (hi : Nat → Int32) (sv : Nat → Int32) (ch : Nat) (hs : Bool) (inp : Nat → Nat) (ty : Nat) (er : Int32) (wy : Int32) (wd : Int32) (rf : Bool) (lt : Nat → Nat) (ln : Nat) (th : Int32) (tr : Nat → Nat) (mv : Nat → Nat) (fo : Int32) (sp : Nat) (wr : Bool) (td : Nat → Int32) (hd : 2 ≤ nr ∧ nr ≤ 3 ∧ 2 ≤ nc ∧ nc ≤ 3) (hKR : ∀ q, q < nr * nc → pG q = 46 ∨ (97 ≤ pG q ∧ pG q ≤ 108)) : MM l G yX5_timesOf cX5_timesOf 5 (some .int) ⟨1, 0, 0, 20⟩ [.ref mh, .int (nI 23), .int (-1)] (MW G mh md nr nc pL pG pB pk bf hi sv ch hs inp ty er wy wd rf lt ln th tr mv fo sp wr td) (Qi_ G (fun (r : Int32) (_ : Unit) => r = nI (tm pG (nr * nc) 46)) (fun (_ : Unit) => (MW G mh md nr nc pL pG pB pk bf hi sv ch hs inp ty er wy wd rf lt ln th tr mv fo sp wr td))) := by
  refine MM.of (by decide) (Nat.le_of_ble_eq_true rfl) ?_
  intro p e s m args below meth cd A C hini hA hK hZ hP hD ls hl
  generalize hQ : MQ below ((Qi_ G (fun (r : Int32) (_ : Unit) => r = nI (tm pG (nr * nc) 46)) (fun (_ : Unit) => (MW G mh md nr nc pL pG pB pk bf hi sv ch hs inp ty er wy wd rf lt ln th tr mv fo sp wr td))) A) args s (⟨1, 0, 0, 20⟩ : Room).cells (⟨1, 0, 0, 20⟩ : Room).slots A = Q
  obtain ⟨hx, hb, hr, hts, hown, hlk, hml⟩ := C
  have hown : s.vm.findClass RX5 = some m.cls := hown
  have hS : va_S A s.heap s.heap [] := va_S.rf
  have hl : lv_has ls 5 [(0, .ref mh), (1, .int (nI 23)), (2, .int (-1))] := hl
  have hmu := dm_mul hd
  refine lv_iconst (v := nI 0) hx hb dX5_timesOf_0 (by decide) ?_
  refine lv_istore_n (lv' := [(3, .int (nI 0)), (0, .ref mh), (1, .int (nI 23)), (2, .int (-1))]) hx hb dX5_timesOf_1 rfl hl (by decide) rfl (fun ls hl => ?_)
  refine lv_iconst (v := nI 0) hx hb dX5_timesOf_2 (by decide) ?_
  refine lv_istore (lv' := [(4, .int (nI 0)), (3, .int (nI 0)), (0, .ref mh), (1, .int (nI 23)), (2, .int (-1))]) hx hb dX5_timesOf_3 hl (by decide) rfl (fun ls hl => ?_)
  have lp5 : ∀ (f : Nat) (i : Nat) (n : Nat), nr * nc - i < f → (i ≤ nr * nc) → (n = cn (fun k => decide (pG k = 46)) i) → ∀ (H : Heap) (locs : List Loc) (ls : Array Slot), va_P G.1 CL (MW G mh md nr nc pL pG pB pk bf hi sv ch hs inp ty er wy wd rf lt ln th tr mv fo sp wr td) H → va_D A (MW G mh md nr nc pL pG pB pk bf hi sv ch hs inp ty er wy wd rf lt ln th tr mv fo sp wr td) → va_S A s.heap H locs → lv_has ls 5 [(4, .int (nI i)), (3, .int (nI n)), (0, .ref mh), (1, .int (nI 23)), (2, .int (-1))] → W p l e (⟨1, 0, 0, 20⟩ : Room) s m args below meth cd H locs 0 0 Q (F0 m 5 ls []) := by
    intro f
    induction f with
    | zero => intro i n hf; exact absurd hf (Nat.not_lt_zero _)
    | succ f ih5 =>
      intro i n hf hi9 hn H locs ls hP hD hS hl
      refine lv_iload hx hb dX5_timesOf_5 (lv_at hl 0 rfl) ?_
      refine lv_aload_n hx hb dX5_timesOf_7 rfl (lv_at hl 2 rfl) ?_
      refine callVi (As := []) (rest := [.int (nI i)]) (wc := (MW G mh md nr nc pL pG pB pk bf hi sv ch hs inp ty er wy wd rf lt ln th tr mv fo sp wr td)) (wr := ([] : va_W)) ⟨hx, hb, hml, hown, hts⟩ (m_X5_places l G mh md nr nc pL pG pB pk bf hi sv ch hs inp ty er wy wd rf lt ln th tr mv fo sp wr td ) (cwV 0 hts (lw_V q1817 q1819 qs38 q105 q1820) rfl rfl rfl (by decide +kernel) ⟨Nat.le_of_ble_eq_true rfl, Nat.le_of_ble_eq_true rfl⟩) hK hZ hA hP hD hS [0, 1, 2, 3, 4, 5, 6, 7, 8, 9] [] rfl rfl (by decide) (by decide) (by decide) 0 4 rfl rfl rfl hl.1 (Nat.le_of_ble_eq_true rfl) ⟨Nat.le_of_ble_eq_true rfl, Nat.le_of_ble_eq_true rfl⟩ rfl dX5_timesOf_8 (fun r9 u9 H locs hw9 hP hD hS => ?_)
      subst hw9
      have hP : va_P G.1 CL (MW G mh md nr nc pL pG pB pk bf hi sv ch hs inp ty er wy wd rf lt ln th tr mv fo sp wr td) _ := hP
      have hD : va_D A (MW G mh md nr nc pL pG pB pk bf hi sv ch hs inp ty er wy wd rf lt ln th tr mv fo sp wr td) := hD
      refine n_cmp_ge (tgt := 41) hx hb dX5_timesOf_11 (by decide) (by omega) (by omega) (fun c11 => ?_) (fun c11 => ?_)
      · skip
        refine lv_iload_n hx hb dX5_timesOf_41 rfl (lv_at hl 1 rfl) ?_
        subst hQ
        exact ret_i hx hb hr hlk () (by rw [hn, tm, show i = nr * nc by omega]) hP hD hS rfl dX5_timesOf_42
      · skip
        refine lv_iload_n hx hb dX5_timesOf_14 rfl (lv_at hl 1 rfl) ?_
        refine lv_aload_n hx hb dX5_timesOf_15 rfl (lv_at hl 2 rfl) ?_
        refine va_get (D := G.1) (ci := 4) (v := .ref (md 0)) (C := RX5) (T := TX5) (N := 21) hx hb hts in_X5 hown hK hP 0 rfl rfl 0 (by decide) (hts _ q1727) (fun _ h9 => h9) rfl dX5_timesOf_16 ?_
        refine lv_iload_n hx hb dX5_timesOf_19 rfl (lv_at hl 3 rfl) ?_
        refine lv_iload hx hb dX5_timesOf_20 (lv_at hl 0 rfl) ?_
        refine n_iadd hx hb dX5_timesOf_22 ?_
        refine r_iald hx hb hK hP 1 3 rfl rfl (by omega) (by decide) dX5_timesOf_23 ?_
        refine eq_i (y := (gk (pG i))) (gZ_k (by omega)) ?_
        refine lv_iload_n hx hb dX5_timesOf_24 rfl (lv_at hl 4 rfl) ?_
        refine lv_icmp_ne (tgt := 32) hx hb dX5_timesOf_25 (by decide) (fun c25 => ?_) (fun c25 => ?_)
        · skip
          refine lv_iconst (v := nI 0) hx hb dX5_timesOf_32 (by decide) ?_
          refine n_iadd hx hb dX5_timesOf_33 ?_
          refine lv_istore_n (lv' := [(3, .int (nI (n + 0))), (4, .int (nI i)), (0, .ref mh), (1, .int (nI 23)), (2, .int (-1))]) hx hb dX5_timesOf_34 rfl hl (by decide) rfl (fun ls hl => ?_)
          refine lv_iinc (v := nI (i + 1)) (lv' := [(4, .int (nI (i + 1))), (3, .int (nI (n + 0))), (0, .ref mh), (1, .int (nI 23)), (2, .int (-1))]) hx hb dX5_timesOf_35 hl (k := 1) rfl (nI_add _ _) (by decide) rfl (fun ls hl => ?_)
          refine lv_goto (tgt := 5) hx hb dX5_timesOf_38 (by decide) ?_
          exact ih5 (i + 1) (n + 0) (by omega) (by omega) (by rw [hn]; exact cn_f (decide_eq_false (fun z => c25 ((gk_m1 (hKR i (by omega))).mpr z)))) _ _ _ hP hD hS (lv_sub hl [0, 1, 2, 3, 4] rfl)
        · skip
          refine lv_iconst (v := nI 1) hx hb dX5_timesOf_28 (by decide) ?_
          refine lv_goto (tgt := 33) hx hb dX5_timesOf_29 (by decide) ?_
          refine n_iadd hx hb dX5_timesOf_33 ?_
          refine lv_istore_n (lv' := [(3, .int (nI (n + 1))), (4, .int (nI i)), (0, .ref mh), (1, .int (nI 23)), (2, .int (-1))]) hx hb dX5_timesOf_34 rfl hl (by decide) rfl (fun ls hl => ?_)
          refine lv_iinc (v := nI (i + 1)) (lv' := [(4, .int (nI (i + 1))), (3, .int (nI (n + 1))), (0, .ref mh), (1, .int (nI 23)), (2, .int (-1))]) hx hb dX5_timesOf_35 hl (k := 1) rfl (nI_add _ _) (by decide) rfl (fun ls hl => ?_)
          refine lv_goto (tgt := 5) hx hb dX5_timesOf_38 (by decide) ?_
          exact ih5 (i + 1) (n + 1) (by omega) (by omega) (by rw [hn]; exact cn_t (decide_eq_true ((gk_m1 (hKR i (by omega))).mp c25))) _ _ _ hP hD hS (lv_sub hl [0, 1, 2, 3, 4] rfl)
  exact lp5 _ 0 0 (Nat.lt_succ_self _) (by omega) rfl _ _ _ hP hD hS (lv_sub hl [0, 1, 2, 3, 4] rfl)
set_option maxHeartbeats 4000000 in
set_option maxRecDepth 100000 in
theorem m_X5_lacksLetters (l : Launch) (G : GG) (mh : Nat) (md : Nat → Nat) (nr : Nat) (nc : Nat) (pL : Nat → Nat) (pG : Nat → Nat) (pB : Nat → Bool) (pk : Nat → Int32) (bf : Nat → Int32) (hi : Nat → Int32) (sv : Nat → Int32) (ch : Nat) (hs : Bool) (inp : Nat → Nat) (ty : Nat) (er : Int32) (wy : Int32) (wd : Int32) (rf : Bool) (lt : Nat → Nat) (ln : Nat) (th : Int32) (tr : Nat → Nat) (mv : Nat → Nat) (fo : Int32) (sp : Nat) (wr : Bool) (td : Nat → Int32) (hd : 2 ≤ nr ∧ nr ≤ 3 ∧ 2 ≤ nc ∧ nc ≤ 3) (hLR : ∀ q, q < nr * nc → 97 ≤ pL q ∧ pL q ≤ 108) (hKR : ∀ q, q < nr * nc → pG q = 46 ∨ (97 ≤ pG q ∧ pG q ≤ 108)) : MM l G yX5_lacksLetters cX5_lacksLetters 3 (some .boolean) ⟨2, 0, 0, 44⟩ [.ref mh] (MW G mh md nr nc pL pG pB pk bf hi sv ch hs inp ty er wy wd rf lt ln th tr mv fo sp wr td) (Qi_ G (fun (r : Int32) (_ : Unit) => r = bI (lk pL pG (nr * nc))) (fun (_ : Unit) => (MW G mh md nr nc pL pG pB pk bf hi sv ch hs inp ty er wy wd rf lt ln th tr mv fo sp wr td))) := by
  refine MM.of (by decide) (Nat.le_of_ble_eq_true rfl) ?_
  intro p e s m args below meth cd A C hini hA hK hZ hP hD ls hl
  generalize hQ : MQ below ((Qi_ G (fun (r : Int32) (_ : Unit) => r = bI (lk pL pG (nr * nc))) (fun (_ : Unit) => (MW G mh md nr nc pL pG pB pk bf hi sv ch hs inp ty er wy wd rf lt ln th tr mv fo sp wr td))) A) args s (⟨2, 0, 0, 44⟩ : Room).cells (⟨2, 0, 0, 44⟩ : Room).slots A = Q
  obtain ⟨hx, hb, hr, hts, hown, hlk, hml⟩ := C
  have hown : s.vm.findClass RX5 = some m.cls := hown
  have hS : va_S A s.heap s.heap [] := va_S.rf
  have hl : lv_has ls 3 [(0, .ref mh)] := hl
  have hmu := dm_mul hd
  refine lv_iconst (v := nI 0) hx hb dX5_lacksLetters_0 (by decide) ?_
  refine lv_istore_n (lv' := [(1, .int (nI 0)), (0, .ref mh)]) hx hb dX5_lacksLetters_1 rfl hl (by decide) rfl (fun ls hl => ?_)
  refine lv_iconst (v := nI 0) hx hb dX5_lacksLetters_2 (by decide) ?_
  refine lv_istore_n (lv' := [(2, .int (nI 0)), (1, .int (nI 0)), (0, .ref mh)]) hx hb dX5_lacksLetters_3 rfl hl (by decide) rfl (fun ls hl => ?_)
  have lp4 : ∀ (f : Nat) (v : Nat) (bb : Bool), 12 - v < f → (v ≤ 12) → (bb = ay (fun v => decide (tm pL (nr * nc) (97 + v) < tm pG (nr * nc) (97 + v))) v) → ∀ (H : Heap) (locs : List Loc) (ls : Array Slot), va_P G.1 CL (MW G mh md nr nc pL pG pB pk bf hi sv ch hs inp ty er wy wd rf lt ln th tr mv fo sp wr td) H → va_D A (MW G mh md nr nc pL pG pB pk bf hi sv ch hs inp ty er wy wd rf lt ln th tr mv fo sp wr td) → va_S A s.heap H locs → lv_has ls 3 [(2, .int (nI v)), (1, .int (bI bb)), (0, .ref mh)] → W p l e (⟨2, 0, 0, 44⟩ : Room) s m args below meth cd H locs 0 0 Q (F0 m 4 ls []) := by
    intro f
    induction f with
    | zero => intro v bb hf; exact absurd hf (Nat.not_lt_zero _)
    | succ f ih4 =>
      intro v bb hf hi9 hn H locs ls hP hD hS hl
      refine lv_iload_n hx hb dX5_lacksLetters_4 rfl (lv_at hl 0 rfl) ?_
      refine lv_bipush (v := nI 12) hx hb dX5_lacksLetters_5 (by decide) ?_
      refine n_cmp_ge (tgt := 43) hx hb dX5_lacksLetters_7 (by decide) (by omega) (by omega) (fun c7 => ?_) (fun c7 => ?_)
      · skip
        refine lv_iload_n hx hb dX5_lacksLetters_43 rfl (lv_at hl 1 rfl) ?_
        subst hQ
        exact ret_i hx hb hr hlk () (congrArg bI (by rw [hn, lk, show v = 12 by omega])) hP hD hS (bI_nar _) dX5_lacksLetters_44
      · skip
        refine lv_iload_n hx hb dX5_lacksLetters_10 rfl (lv_at hl 1 rfl) ?_
        refine b_if_ne (tgt := 31) hx hb dX5_lacksLetters_11 (by decide) (fun c11 => ?_) (fun c11 => ?_)
        · skip
          refine lv_iconst (v := nI 1) hx hb dX5_lacksLetters_31 (by decide) ?_
          refine lv_goto (tgt := 36) hx hb dX5_lacksLetters_32 (by decide) ?_
          refine lv_istore_n (lv' := [(1, .int (nI 1)), (2, .int (nI v)), (0, .ref mh)]) hx hb dX5_lacksLetters_36 rfl hl (by decide) rfl (fun ls hl => ?_)
          refine lv_iinc (v := nI (v + 1)) (lv' := [(2, .int (nI (v + 1))), (1, .int (nI 1)), (0, .ref mh)]) hx hb dX5_lacksLetters_37 hl (k := 1) rfl (nI_add _ _) (by decide) rfl (fun ls hl => ?_)
          refine lv_goto (tgt := 4) hx hb dX5_lacksLetters_40 (by decide) ?_
          exact ih4 (v + 1) true (by omega) (by omega) (by first | (rw [ay, ← hn, c11]; rfl) | (simp [ay, c28]; done)) _ _ _ hP hD hS (lv_sub hl [0, 1, 2] rfl)
        · skip
          refine lv_aload_n hx hb dX5_lacksLetters_14 rfl (lv_at hl 2 rfl) ?_
          refine lv_bipush (v := nI 23) hx hb dX5_lacksLetters_15 (by decide) ?_
          refine lv_iload_n hx hb dX5_lacksLetters_17 rfl (lv_at hl 0 rfl) ?_
          refine callVi (As := [.int (nI 23), .int (nI v)]) (rest := []) (wc := (MW G mh md nr nc pL pG pB pk bf hi sv ch hs inp ty er wy wd rf lt ln th tr mv fo sp wr td)) (wr := ([] : va_W)) ⟨hx, hb, hml, hown, hts⟩ (m_X5_timesOf__G l G mh md nr nc pL pG pB pk bf hi sv ch hs inp ty er wy wd rf lt ln th tr mv fo sp wr td v (by first | assumption | omega) (by first | assumption | omega) (by first | assumption | omega)) (cwV 2 hts (lw_V q1971 q1973 qs66 q105 q1974) rfl rfl rfl (by decide +kernel) ⟨Nat.le_of_ble_eq_true rfl, Nat.le_of_ble_eq_true rfl⟩) hK hZ hA hP hD hS [0, 1, 2, 3, 4, 5, 6, 7, 8, 9] [] rfl rfl (by decide) (by decide) (by decide) 0 4 rfl rfl rfl hl.1 (Nat.le_of_ble_eq_true rfl) ⟨Nat.le_of_ble_eq_true rfl, Nat.le_of_ble_eq_true rfl⟩ rfl dX5_lacksLetters_18 (fun r9 u9 H locs hw9 hP hD hS => ?_)
          subst hw9
          have hP : va_P G.1 CL (MW G mh md nr nc pL pG pB pk bf hi sv ch hs inp ty er wy wd rf lt ln th tr mv fo sp wr td) _ := hP
          have hD : va_D A (MW G mh md nr nc pL pG pB pk bf hi sv ch hs inp ty er wy wd rf lt ln th tr mv fo sp wr td) := hD
          refine lv_aload_n hx hb dX5_lacksLetters_21 rfl (lv_at hl 2 rfl) ?_
          refine lv_bipush (v := nI 14) hx hb dX5_lacksLetters_22 (by decide) ?_
          refine lv_iload_n hx hb dX5_lacksLetters_24 rfl (lv_at hl 0 rfl) ?_
          refine callVi (As := [.int (nI 14), .int (nI v)]) (rest := [.int (nI (tm pG (nr * nc) (97 + v)))]) (wc := (MW G mh md nr nc pL pG pB pk bf hi sv ch hs inp ty er wy wd rf lt ln th tr mv fo sp wr td)) (wr := ([] : va_W)) ⟨hx, hb, hml, hown, hts⟩ (m_X5_timesOf__L l G mh md nr nc pL pG pB pk bf hi sv ch hs inp ty er wy wd rf lt ln th tr mv fo sp wr td v (by first | assumption | omega) (by first | assumption | omega) (by first | assumption | omega)) (cwV 2 hts (lw_V q1971 q1973 qs66 q105 q1974) rfl rfl rfl (by decide +kernel) ⟨Nat.le_of_ble_eq_true rfl, Nat.le_of_ble_eq_true rfl⟩) hK hZ hA hP hD hS [0, 1, 2, 3, 4, 5, 6, 7, 8, 9] [] rfl rfl (by decide) (by decide) (by decide) 0 4 rfl rfl rfl hl.1 (Nat.le_of_ble_eq_true rfl) ⟨Nat.le_of_ble_eq_true rfl, Nat.le_of_ble_eq_true rfl⟩ rfl dX5_lacksLetters_25 (fun r9 u9 H locs hw9 hP hD hS => ?_)
          subst hw9
          have hP : va_P G.1 CL (MW G mh md nr nc pL pG pB pk bf hi sv ch hs inp ty er wy wd rf lt ln th tr mv fo sp wr td) _ := hP
          have hD : va_D A (MW G mh md nr nc pL pG pB pk bf hi sv ch hs inp ty er wy wd rf lt ln th tr mv fo sp wr td) := hD
          refine n_cmp_le (tgt := 35) hx hb dX5_lacksLetters_28 (by decide) (by have := tm_le pG (nr * nc) (97 + v); omega) (by have := tm_le pL (nr * nc) (97 + v); omega) (fun c28 => ?_) (fun c28 => ?_)
          · skip
            refine lv_iconst (v := nI 0) hx hb dX5_lacksLetters_35 (by decide) ?_
            refine lv_istore_n (lv' := [(1, .int (nI 0)), (2, .int (nI v)), (0, .ref mh)]) hx hb dX5_lacksLetters_36 rfl hl (by decide) rfl (fun ls hl => ?_)
            refine lv_iinc (v := nI (v + 1)) (lv' := [(2, .int (nI (v + 1))), (1, .int (nI 0)), (0, .ref mh)]) hx hb dX5_lacksLetters_37 hl (k := 1) rfl (nI_add _ _) (by decide) rfl (fun ls hl => ?_)
            refine lv_goto (tgt := 4) hx hb dX5_lacksLetters_40 (by decide) ?_
            exact ih4 (v + 1) false (by omega) (by omega) (by rw [ay, ← hn, c11]; simp [Nat.not_lt.mpr c28]) _ _ _ hP hD hS (lv_sub hl [0, 1, 2] rfl)
          · skip
            refine lv_iconst (v := nI 1) hx hb dX5_lacksLetters_31 (by decide) ?_
            refine lv_goto (tgt := 36) hx hb dX5_lacksLetters_32 (by decide) ?_
            refine lv_istore_n (lv' := [(1, .int (nI 1)), (2, .int (nI v)), (0, .ref mh)]) hx hb dX5_lacksLetters_36 rfl hl (by decide) rfl (fun ls hl => ?_)
            refine lv_iinc (v := nI (v + 1)) (lv' := [(2, .int (nI (v + 1))), (1, .int (nI 1)), (0, .ref mh)]) hx hb dX5_lacksLetters_37 hl (k := 1) rfl (nI_add _ _) (by decide) rfl (fun ls hl => ?_)
            refine lv_goto (tgt := 4) hx hb dX5_lacksLetters_40 (by decide) ?_
            exact ih4 (v + 1) true (by omega) (by omega) (by first | (rw [ay, ← hn, c11]; rfl) | (simp [ay, c28]; done)) _ _ _ hP hD hS (lv_sub hl [0, 1, 2] rfl)
  exact lp4 _ 0 false (Nat.lt_succ_self _) (by omega) rfl _ _ _ hP hD hS (lv_sub hl [0, 1, 2] rfl)
set_option maxHeartbeats 4000000 in
set_option maxRecDepth 100000 in
theorem m_X5_unlike (l : Launch) (G : GG) (mh : Nat) (md : Nat → Nat) (nr : Nat) (nc : Nat) (pL : Nat → Nat) (pG : Nat → Nat) (pB : Nat → Bool) (pk : Nat → Int32) (bf : Nat → Int32) (hi : Nat → Int32) (sv : Nat → Int32) (ch : Nat) (hs : Bool) (inp : Nat → Nat) (ty : Nat) (er : Int32) (wy : Int32) (wd : Int32) (rf : Bool) (lt : Nat → Nat) (ln : Nat) (th : Int32) (tr : Nat → Nat) (mv : Nat → Nat) (fo : Int32) (sp : Nat) (wr : Bool) (td : Nat → Int32) (hd : 2 ≤ nr ∧ nr ≤ 3 ∧ 2 ≤ nc ∧ nc ≤ 3) (hLR : ∀ q, q < nr * nc → 97 ≤ pL q ∧ pL q ≤ 108) : MM l G yX5_unlike cX5_unlike 3 (some .int) ⟨2, 0, 0, 44⟩ [.ref mh] (MW G mh md nr nc pL pG pB pk bf hi sv ch hs inp ty er wy wd rf lt ln th tr mv fo sp wr td) (Qi_ G (fun (r : Int32) (_ : Unit) => r = nI (ul pL (nr * nc))) (fun (_ : Unit) => (MW G mh md nr nc pL pG pB pk bf hi sv ch hs inp ty er wy wd rf lt ln th tr mv fo sp wr td))) := by
  refine MM.of (by decide) (Nat.le_of_ble_eq_true rfl) ?_
  intro p e s m args below meth cd A C hini hA hK hZ hP hD ls hl
  generalize hQ : MQ below ((Qi_ G (fun (r : Int32) (_ : Unit) => r = nI (ul pL (nr * nc))) (fun (_ : Unit) => (MW G mh md nr nc pL pG pB pk bf hi sv ch hs inp ty er wy wd rf lt ln th tr mv fo sp wr td))) A) args s (⟨2, 0, 0, 44⟩ : Room).cells (⟨2, 0, 0, 44⟩ : Room).slots A = Q
  obtain ⟨hx, hb, hr, hts, hown, hlk, hml⟩ := C
  have hown : s.vm.findClass RX5 = some m.cls := hown
  have hS : va_S A s.heap s.heap [] := va_S.rf
  have hl : lv_has ls 3 [(0, .ref mh)] := hl
  have hmu := dm_mul hd
  refine lv_iconst (v := nI 0) hx hb dX5_unlike_0 (by decide) ?_
  refine lv_istore_n (lv' := [(1, .int (nI 0)), (0, .ref mh)]) hx hb dX5_unlike_1 rfl hl (by decide) rfl (fun ls hl => ?_)
  refine lv_iconst (v := nI 0) hx hb dX5_unlike_2 (by decide) ?_
  refine lv_istore_n (lv' := [(2, .int (nI 0)), (1, .int (nI 0)), (0, .ref mh)]) hx hb dX5_unlike_3 rfl hl (by decide) rfl (fun ls hl => ?_)
  have lp4 : ∀ (f : Nat) (v : Nat) (n : Nat), 12 - v < f → (v ≤ 12) → (n = cn (fun v => decide (0 < tm pL (nr * nc) (97 + v))) v) → ∀ (H : Heap) (locs : List Loc) (ls : Array Slot), va_P G.1 CL (MW G mh md nr nc pL pG pB pk bf hi sv ch hs inp ty er wy wd rf lt ln th tr mv fo sp wr td) H → va_D A (MW G mh md nr nc pL pG pB pk bf hi sv ch hs inp ty er wy wd rf lt ln th tr mv fo sp wr td) → va_S A s.heap H locs → lv_has ls 3 [(2, .int (nI v)), (1, .int (nI n)), (0, .ref mh)] → W p l e (⟨2, 0, 0, 44⟩ : Room) s m args below meth cd H locs 0 0 Q (F0 m 4 ls []) := by
    intro f
    induction f with
    | zero => intro v n hf; exact absurd hf (Nat.not_lt_zero _)
    | succ f ih4 =>
      intro v n hf hi9 hn H locs ls hP hD hS hl
      refine lv_iload_n hx hb dX5_unlike_4 rfl (lv_at hl 0 rfl) ?_
      refine lv_bipush (v := nI 12) hx hb dX5_unlike_5 (by decide) ?_
      refine n_cmp_ge (tgt := 34) hx hb dX5_unlike_7 (by decide) (by omega) (by omega) (fun c7 => ?_) (fun c7 => ?_)
      · skip
        refine lv_iload_n hx hb dX5_unlike_34 rfl (lv_at hl 1 rfl) ?_
        subst hQ
        exact ret_i hx hb hr hlk () (by rw [hn, ul, show v = 12 by omega]) hP hD hS rfl dX5_unlike_35
      · skip
        refine lv_iload_n hx hb dX5_unlike_10 rfl (lv_at hl 1 rfl) ?_
        refine lv_aload_n hx hb dX5_unlike_11 rfl (lv_at hl 2 rfl) ?_
        refine lv_bipush (v := nI 14) hx hb dX5_unlike_12 (by decide) ?_
        refine lv_iload_n hx hb dX5_unlike_14 rfl (lv_at hl 0 rfl) ?_
        refine callVi (As := [.int (nI 14), .int (nI v)]) (rest := [.int (nI n)]) (wc := (MW G mh md nr nc pL pG pB pk bf hi sv ch hs inp ty er wy wd rf lt ln th tr mv fo sp wr td)) (wr := ([] : va_W)) ⟨hx, hb, hml, hown, hts⟩ (m_X5_timesOf__L l G mh md nr nc pL pG pB pk bf hi sv ch hs inp ty er wy wd rf lt ln th tr mv fo sp wr td v (by first | assumption | omega) (by first | assumption | omega) (by first | assumption | omega)) (cwV 2 hts (lw_V q1971 q1973 qs66 q105 q1974) rfl rfl rfl (by decide +kernel) ⟨Nat.le_of_ble_eq_true rfl, Nat.le_of_ble_eq_true rfl⟩) hK hZ hA hP hD hS [0, 1, 2, 3, 4, 5, 6, 7, 8, 9] [] rfl rfl (by decide) (by decide) (by decide) 0 4 rfl rfl rfl hl.1 (Nat.le_of_ble_eq_true rfl) ⟨Nat.le_of_ble_eq_true rfl, Nat.le_of_ble_eq_true rfl⟩ rfl dX5_unlike_15 (fun r9 u9 H locs hw9 hP hD hS => ?_)
        subst hw9
        have hP : va_P G.1 CL (MW G mh md nr nc pL pG pB pk bf hi sv ch hs inp ty er wy wd rf lt ln th tr mv fo sp wr td) _ := hP
        have hD : va_D A (MW G mh md nr nc pL pG pB pk bf hi sv ch hs inp ty er wy wd rf lt ln th tr mv fo sp wr td) := hD
        refine n_if_le (tgt := 25) hx hb dX5_unlike_18 (by decide) (by have := tm_le pL (nr * nc) (97 + v); omega) (fun c18 => ?_) (fun c18 => ?_)
        · skip
          refine lv_iconst (v := nI 0) hx hb dX5_unlike_25 (by decide) ?_
          refine n_iadd hx hb dX5_unlike_26 ?_
          refine lv_istore_n (lv' := [(1, .int (nI (n + 0))), (2, .int (nI v)), (0, .ref mh)]) hx hb dX5_unlike_27 rfl hl (by decide) rfl (fun ls hl => ?_)
          refine lv_iinc (v := nI (v + 1)) (lv' := [(2, .int (nI (v + 1))), (1, .int (nI (n + 0))), (0, .ref mh)]) hx hb dX5_unlike_28 hl (k := 1) rfl (nI_add _ _) (by decide) rfl (fun ls hl => ?_)
          refine lv_goto (tgt := 4) hx hb dX5_unlike_31 (by decide) ?_
          exact ih4 (v + 1) (n + 0) (by omega) (by omega) (by rw [hn]; exact cn_f (decide_eq_false (by omega))) _ _ _ hP hD hS (lv_sub hl [0, 1, 2] rfl)
        · skip
          refine lv_iconst (v := nI 1) hx hb dX5_unlike_21 (by decide) ?_
          refine lv_goto (tgt := 26) hx hb dX5_unlike_22 (by decide) ?_
          refine n_iadd hx hb dX5_unlike_26 ?_
          refine lv_istore_n (lv' := [(1, .int (nI (n + 1))), (2, .int (nI v)), (0, .ref mh)]) hx hb dX5_unlike_27 rfl hl (by decide) rfl (fun ls hl => ?_)
          refine lv_iinc (v := nI (v + 1)) (lv' := [(2, .int (nI (v + 1))), (1, .int (nI (n + 1))), (0, .ref mh)]) hx hb dX5_unlike_28 hl (k := 1) rfl (nI_add _ _) (by decide) rfl (fun ls hl => ?_)
          refine lv_goto (tgt := 4) hx hb dX5_unlike_31 (by decide) ?_
          exact ih4 (v + 1) (n + 1) (by omega) (by omega) (by rw [hn]; exact cn_t (decide_eq_true c18)) _ _ _ hP hD hS (lv_sub hl [0, 1, 2] rfl)
  exact lp4 _ 0 0 (Nat.lt_succ_self _) (by omega) rfl _ _ _ hP hD hS (lv_sub hl [0, 1, 2] rfl)
set_option maxHeartbeats 4000000 in
set_option maxRecDepth 100000 in
theorem m_X5_swapsAreOdd (l : Launch) (G : GG) (mh : Nat) (md : Nat → Nat) (nr : Nat) (nc : Nat) (pL : Nat → Nat) (pG : Nat → Nat) (pB : Nat → Bool) (pk : Nat → Int32) (bf : Nat → Int32) (hi : Nat → Int32) (sv : Nat → Int32) (ch : Nat) (hs : Bool) (inp : Nat → Nat) (ty : Nat) (er : Int32) (wy : Int32) (wd : Int32) (rf : Bool) (lt : Nat → Nat) (ln : Nat) (th : Int32) (tr : Nat → Nat) (mv : Nat → Nat) (fo : Int32) (sp : Nat) (wr : Bool) (td : Nat → Int32) (hd : 2 ≤ nr ∧ nr ≤ 3 ∧ 2 ≤ nc ∧ nc ≤ 3) (hLR : ∀ q, q < nr * nc → 97 ≤ pL q ∧ pL q ≤ 108) (hKR : ∀ q, q < nr * nc → pG q = 46 ∨ (97 ≤ pG q ∧ pG q ≤ 108)) (hF : ∀ r, r < nr * nc → (mvF (nr * nc) pL pG mv) r < nr * nc) : MM l G yX5_swapsAreOdd cX5_swapsAreOdd 4 (some .boolean) ⟨2, 0, 0, 44⟩ [.ref mh] (MW G mh md nr nc pL pG pB pk bf hi sv ch hs inp ty er wy wd rf lt ln th tr mv fo sp wr td) (Qi_ G (fun (r : Int32) (u : (Nat → Nat)) => r = bI (iv (mvF (nr * nc) pL pG mv) (nr * nc))) (fun (u : (Nat → Nat)) => (MW G mh md nr nc pL pG pB pk bf hi sv ch hs inp ty er wy wd rf lt ln th tr u fo sp wr td))) := by
  refine MM.of (by decide) (Nat.le_of_ble_eq_true rfl) ?_
  intro p e s m args below meth cd A C hini hA hK hZ hP hD ls hl
  generalize hQ : MQ below ((Qi_ G (fun (r : Int32) (u : (Nat → Nat)) => r = bI (iv (mvF (nr * nc) pL pG mv) (nr * nc))) (fun (u : (Nat → Nat)) => (MW G mh md nr nc pL pG pB pk bf hi sv ch hs inp ty er wy wd rf lt ln th tr u fo sp wr td))) A) args s (⟨2, 0, 0, 44⟩ : Room).cells (⟨2, 0, 0, 44⟩ : Room).slots A = Q
  obtain ⟨hx, hb, hr, hts, hown, hlk, hml⟩ := C
  have hown : s.vm.findClass RX5 = some m.cls := hown
  have hS : va_S A s.heap s.heap [] := va_S.rf
  have hl : lv_has ls 4 [(0, .ref mh)] := hl
  have hmu := dm_mul hd
  refine lv_iconst (v := nI 0) hx hb dX5_swapsAreOdd_0 (by decide) ?_
  refine lv_istore_n (lv' := [(1, .int (nI 0)), (0, .ref mh)]) hx hb dX5_swapsAreOdd_1 rfl hl (by decide) rfl (fun ls hl => ?_)
  have lp2 : ∀ (f : Nat) (pv : Nat) (M1 : Nat → Nat), nr * nc - pv < f → (pv ≤ nr * nc) → (∀ r, r < pv → M1 r = (mvF (nr * nc) pL pG mv) r) → (∀ r, pv ≤ r → M1 r = mv r) → ∀ (H : Heap) (locs : List Loc) (ls : Array Slot), va_P G.1 CL (MW G mh md nr nc pL pG pB pk bf hi sv ch hs inp ty er wy wd rf lt ln th tr M1 fo sp wr td) H → va_D A (MW G mh md nr nc pL pG pB pk bf hi sv ch hs inp ty er wy wd rf lt ln th tr M1 fo sp wr td) → va_S A s.heap H locs → lv_has ls 4 [(0, .ref mh), (1, .int (nI pv))] → W p l e (⟨2, 0, 0, 44⟩ : Room) s m args below meth cd H locs 0 0 Q (F0 m 2 ls []) := by
    intro f
    induction f with
    | zero => intro pv M1 hf; exact absurd hf (Nat.not_lt_zero _)
    | succ f ih2 =>
      intro pv M1 hf hp9 h1 h2 H locs ls hP hD hS hl
      refine lv_iload_n hx hb dX5_swapsAreOdd_2 rfl (lv_at hl 1 rfl) ?_
      refine lv_aload_n hx hb dX5_swapsAreOdd_3 rfl (lv_at hl 0 rfl) ?_
      refine callVi (As := []) (rest := [.int (nI pv)]) (wc := (MW G mh md nr nc pL pG pB pk bf hi sv ch hs inp ty er wy wd rf lt ln th tr M1 fo sp wr td)) (wr := ([] : va_W)) ⟨hx, hb, hml, hown, hts⟩ (m_X5_places l G mh md nr nc pL pG pB pk bf hi sv ch hs inp ty er wy wd rf lt ln th tr M1 fo sp wr td ) (cwV 0 hts (lw_V q1817 q1819 qs38 q105 q1820) rfl rfl rfl (by decide +kernel) ⟨Nat.le_of_ble_eq_true rfl, Nat.le_of_ble_eq_true rfl⟩) hK hZ hA hP hD hS [0, 1, 2, 3, 4, 5, 6, 7, 8, 9] [] rfl rfl (by decide) (by decide) (by decide) 0 4 rfl rfl rfl hl.1 (Nat.le_of_ble_eq_true rfl) ⟨Nat.le_of_ble_eq_true rfl, Nat.le_of_ble_eq_true rfl⟩ rfl dX5_swapsAreOdd_4 (fun r9 u9 H locs hw9 hP hD hS => ?_)
      subst hw9
      have hP : va_P G.1 CL (MW G mh md nr nc pL pG pB pk bf hi sv ch hs inp ty er wy wd rf lt ln th tr M1 fo sp wr td) _ := hP
      have hD : va_D A (MW G mh md nr nc pL pG pB pk bf hi sv ch hs inp ty er wy wd rf lt ln th tr M1 fo sp wr td) := hD
      refine n_cmp_ge (tgt := 117) hx hb dX5_swapsAreOdd_7 (by decide) (by omega) (by omega) (fun c7 => ?_) (fun c7 => ?_)
      · skip
        refine lv_iconst (v := nI 0) hx hb dX5_swapsAreOdd_117 (by decide) ?_
        refine lv_istore_n (lv' := [(1, .int (nI 0)), (0, .ref mh)]) hx hb dX5_swapsAreOdd_118 rfl hl (by decide) rfl (fun ls hl => ?_)
        have hM9 : ∀ r, r < nr * nc → M1 r = (mvF (nr * nc) pL pG mv) r := fun r hr => h1 r (by omega)
        refine lv_iconst (v := nI 0) hx hb dX5_swapsAreOdd_119 (by decide) ?_
        refine lv_istore_n (lv' := [(2, .int (nI 0)), (1, .int (nI 0)), (0, .ref mh)]) hx hb dX5_swapsAreOdd_120 rfl hl (by decide) rfl (fun ls hl => ?_)
        have lp121 : ∀ (f : Nat) (p2 : Nat) (bb : Bool), nr * nc - p2 < f → (p2 ≤ nr * nc) → (bb = iv (mvF (nr * nc) pL pG mv) p2) → ∀ (H : Heap) (locs : List Loc) (ls : Array Slot), va_P G.1 CL (MW G mh md nr nc pL pG pB pk bf hi sv ch hs inp ty er wy wd rf lt ln th tr M1 fo sp wr td) H → va_D A (MW G mh md nr nc pL pG pB pk bf hi sv ch hs inp ty er wy wd rf lt ln th tr M1 fo sp wr td) → va_S A s.heap H locs → lv_has ls 4 [(0, .ref mh), (1, .int (bI bb)), (2, .int (nI p2))] → W p l e (⟨2, 0, 0, 44⟩ : Room) s m args below meth cd H locs 0 0 Q (F0 m 121 ls []) := by
          intro f
          induction f with
          | zero => intro p2 bb hf; exact absurd hf (Nat.not_lt_zero _)
          | succ f ih121 =>
            intro p2 bb hf hp2 hb0 H locs ls hP hD hS hl
            refine lv_iload_n hx hb dX5_swapsAreOdd_121 rfl (lv_at hl 2 rfl) ?_
            refine lv_aload_n hx hb dX5_swapsAreOdd_122 rfl (lv_at hl 0 rfl) ?_
            refine callVi (As := []) (rest := [.int (nI p2)]) (wc := (MW G mh md nr nc pL pG pB pk bf hi sv ch hs inp ty er wy wd rf lt ln th tr M1 fo sp wr td)) (wr := ([] : va_W)) ⟨hx, hb, hml, hown, hts⟩ (m_X5_places l G mh md nr nc pL pG pB pk bf hi sv ch hs inp ty er wy wd rf lt ln th tr M1 fo sp wr td ) (cwV 0 hts (lw_V q1817 q1819 qs38 q105 q1820) rfl rfl rfl (by decide +kernel) ⟨Nat.le_of_ble_eq_true rfl, Nat.le_of_ble_eq_true rfl⟩) hK hZ hA hP hD hS [0, 1, 2, 3, 4, 5, 6, 7, 8, 9] [] rfl rfl (by decide) (by decide) (by decide) 0 4 rfl rfl rfl hl.1 (Nat.le_of_ble_eq_true rfl) ⟨Nat.le_of_ble_eq_true rfl, Nat.le_of_ble_eq_true rfl⟩ rfl dX5_swapsAreOdd_123 (fun r9 u9 H locs hw9 hP hD hS => ?_)
            subst hw9
            have hP : va_P G.1 CL (MW G mh md nr nc pL pG pB pk bf hi sv ch hs inp ty er wy wd rf lt ln th tr M1 fo sp wr td) _ := hP
            have hD : va_D A (MW G mh md nr nc pL pG pB pk bf hi sv ch hs inp ty er wy wd rf lt ln th tr M1 fo sp wr td) := hD
            refine n_cmp_ge (tgt := 177) hx hb dX5_swapsAreOdd_126 (by decide) (by omega) (by omega) (fun c126 => ?_) (fun c126 => ?_)
            · skip
              refine lv_iload_n hx hb dX5_swapsAreOdd_177 rfl (lv_at hl 1 rfl) ?_
              subst hQ
              exact ret_i hx hb hr hlk M1 (congrArg bI (by rw [hb0, show p2 = nr * nc by omega])) hP hD hS (bI_nar _) dX5_swapsAreOdd_178
            · skip
              refine lv_iconst (v := nI 0) hx hb dX5_swapsAreOdd_129 (by decide) ?_
              refine lv_istore_n (lv' := [(3, .int (nI 0)), (0, .ref mh), (1, .int (bI bb)), (2, .int (nI p2))]) hx hb dX5_swapsAreOdd_130 rfl hl (by decide) rfl (fun ls hl => ?_)
              have lp131 : ∀ (f : Nat) (q2 : Nat) (b1 : Bool), p2 - q2 < f → (q2 ≤ p2) → (b1 = (bb ^^ xr (fun j => decide ((mvF (nr * nc) pL pG mv) p2 < (mvF (nr * nc) pL pG mv) j)) q2)) → ∀ (H : Heap) (locs : List Loc) (ls : Array Slot), va_P G.1 CL (MW G mh md nr nc pL pG pB pk bf hi sv ch hs inp ty er wy wd rf lt ln th tr M1 fo sp wr td) H → va_D A (MW G mh md nr nc pL pG pB pk bf hi sv ch hs inp ty er wy wd rf lt ln th tr M1 fo sp wr td) → va_S A s.heap H locs → lv_has ls 4 [(3, .int (nI q2)), (0, .ref mh), (1, .int (bI b1)), (2, .int (nI p2))] → W p l e (⟨2, 0, 0, 44⟩ : Room) s m args below meth cd H locs 0 0 Q (F0 m 131 ls []) := by
                intro f
                induction f with
                | zero => intro q2 b1 hf; exact absurd hf (Nat.not_lt_zero _)
                | succ f ih131 =>
                  intro q2 b1 hf hq2 hb1 H locs ls hP hD hS hl
                  refine lv_iload_n hx hb dX5_swapsAreOdd_131 rfl (lv_at hl 0 rfl) ?_
                  refine lv_iload_n hx hb dX5_swapsAreOdd_132 rfl (lv_at hl 3 rfl) ?_
                  refine n_cmp_ge (tgt := 171) hx hb dX5_swapsAreOdd_133 (by decide) (by omega) (by omega) (fun c133 => ?_) (fun c133 => ?_)
                  · skip
                    refine lv_iinc (v := nI (p2 + 1)) (lv' := [(2, .int (nI (p2 + 1))), (3, .int (nI q2)), (0, .ref mh), (1, .int (bI b1))]) hx hb dX5_swapsAreOdd_171 hl (k := 3) rfl (nI_add _ _) (by decide) rfl (fun ls hl => ?_)
                    refine lv_goto (tgt := 121) hx hb dX5_swapsAreOdd_174 (by decide) ?_
                    exact ih121 (p2 + 1) b1 (by omega) (by omega) (by rw [hb1, show q2 = p2 by omega, hb0]; rfl) _ _ _ hP hD hS (lv_sub hl [2, 3, 0] rfl)
                  · skip
                    refine lv_aload_n hx hb dX5_swapsAreOdd_136 rfl (lv_at hl 1 rfl) ?_
                    refine va_get (D := G.1) (ci := 4) (v := .ref (md 7)) (C := RX5) (T := TX5) (N := 21) hx hb hts in_X5 hown hK hP 0 rfl rfl 16 (by decide) (hts _ q1743) (fun _ h9 => h9) rfl dX5_swapsAreOdd_137 ?_
                    refine lv_iload_n hx hb dX5_swapsAreOdd_140 rfl (lv_at hl 0 rfl) ?_
                    refine n_iald hx hb hK hP 8 3 rfl rfl (by omega) (by decide) dX5_swapsAreOdd_141 ?_
                    refine lv_aload_n hx hb dX5_swapsAreOdd_142 rfl (lv_at hl 1 rfl) ?_
                    refine va_get (D := G.1) (ci := 4) (v := .ref (md 7)) (C := RX5) (T := TX5) (N := 21) hx hb hts in_X5 hown hK hP 0 rfl rfl 16 (by decide) (hts _ q1743) (fun _ h9 => h9) rfl dX5_swapsAreOdd_143 ?_
                    refine lv_iload_n hx hb dX5_swapsAreOdd_146 rfl (lv_at hl 3 rfl) ?_
                    refine n_iald hx hb hK hP 8 3 rfl rfl (by omega) (by decide) dX5_swapsAreOdd_147 ?_
                    refine n_cmp_le (tgt := 163) hx hb dX5_swapsAreOdd_148 (by decide) (by rw [hM9 q2 (by omega)]; have := hF q2 (by omega); omega) (by rw [hM9 p2 (by omega)]; have := hF p2 (by omega); omega) (fun c148 => ?_) (fun c148 => ?_)
                    · skip
                      refine lv_iload_n hx hb dX5_swapsAreOdd_163 rfl (lv_at hl 2 rfl) ?_
                      refine lv_istore_n (lv' := [(1, .int (bI b1)), (3, .int (nI q2)), (0, .ref mh), (2, .int (nI p2))]) hx hb dX5_swapsAreOdd_164 rfl hl (by decide) rfl (fun ls hl => ?_)
                      refine lv_iinc (v := nI (q2 + 1)) (lv' := [(3, .int (nI (q2 + 1))), (1, .int (bI b1)), (0, .ref mh), (2, .int (nI p2))]) hx hb dX5_swapsAreOdd_165 hl (k := 1) rfl (nI_add _ _) (by decide) rfl (fun ls hl => ?_)
                      refine lv_goto (tgt := 131) hx hb dX5_swapsAreOdd_168 (by decide) ?_
                      exact ih131 (q2 + 1) b1 (by omega) (by omega) (by rw [hM9 q2 (by omega), hM9 p2 (by omega)] at c148; rw [xr, ← Bool.xor_assoc, ← hb1, decide_eq_false (Nat.not_lt.mpr c148), Bool.xor_false]) _ _ _ hP hD hS (lv_sub hl [0, 2, 1, 3] rfl)
                    · skip
                      refine lv_iload_n hx hb dX5_swapsAreOdd_151 rfl (lv_at hl 2 rfl) ?_
                      refine b_if_ne (tgt := 159) hx hb dX5_swapsAreOdd_152 (by decide) (fun c152 => ?_) (fun c152 => ?_)
                      · skip
                        refine lv_iconst (v := nI 0) hx hb dX5_swapsAreOdd_159 (by decide) ?_
                        refine lv_goto (tgt := 164) hx hb dX5_swapsAreOdd_160 (by decide) ?_
                        refine lv_istore_n (lv' := [(1, .int (nI 0)), (3, .int (nI q2)), (0, .ref mh), (2, .int (nI p2))]) hx hb dX5_swapsAreOdd_164 rfl hl (by decide) rfl (fun ls hl => ?_)
                        refine lv_iinc (v := nI (q2 + 1)) (lv' := [(3, .int (nI (q2 + 1))), (1, .int (nI 0)), (0, .ref mh), (2, .int (nI p2))]) hx hb dX5_swapsAreOdd_165 hl (k := 1) rfl (nI_add _ _) (by decide) rfl (fun ls hl => ?_)
                        refine lv_goto (tgt := 131) hx hb dX5_swapsAreOdd_168 (by decide) ?_
                        exact ih131 (q2 + 1) false (by omega) (by omega) (by rw [hM9 q2 (by omega), hM9 p2 (by omega)] at c148; rw [xr, ← Bool.xor_assoc, ← hb1, c152, decide_eq_true c148]; rfl) _ _ _ hP hD hS (lv_sub hl [0, 2, 1, 3] rfl)
                      · skip
                        refine lv_iconst (v := nI 1) hx hb dX5_swapsAreOdd_155 (by decide) ?_
                        refine lv_goto (tgt := 164) hx hb dX5_swapsAreOdd_156 (by decide) ?_
                        refine lv_istore_n (lv' := [(1, .int (nI 1)), (3, .int (nI q2)), (0, .ref mh), (2, .int (nI p2))]) hx hb dX5_swapsAreOdd_164 rfl hl (by decide) rfl (fun ls hl => ?_)
                        refine lv_iinc (v := nI (q2 + 1)) (lv' := [(3, .int (nI (q2 + 1))), (1, .int (nI 1)), (0, .ref mh), (2, .int (nI p2))]) hx hb dX5_swapsAreOdd_165 hl (k := 1) rfl (nI_add _ _) (by decide) rfl (fun ls hl => ?_)
                        refine lv_goto (tgt := 131) hx hb dX5_swapsAreOdd_168 (by decide) ?_
                        exact ih131 (q2 + 1) true (by omega) (by omega) (by rw [hM9 q2 (by omega), hM9 p2 (by omega)] at c148; rw [xr, ← Bool.xor_assoc, ← hb1, c152, decide_eq_true c148]; rfl) _ _ _ hP hD hS (lv_sub hl [0, 2, 1, 3] rfl)
              exact lp131 _ 0 bb (Nat.lt_succ_self _) (by omega) (by simp [xr]) _ _ _ hP hD hS (lv_sub hl [0, 1, 2, 3] rfl)
        exact lp121 _ 0 false (Nat.lt_succ_self _) (by omega) rfl _ _ _ hP hD hS (lv_sub hl [2, 1, 0] rfl)
      · skip
        refine lv_aload_n hx hb dX5_swapsAreOdd_10 rfl (lv_at hl 0 rfl) ?_
        refine va_get (D := G.1) (ci := 4) (v := .ref (md 0)) (C := RX5) (T := TX5) (N := 21) hx hb hts in_X5 hown hK hP 0 rfl rfl 0 (by decide) (hts _ q1727) (fun _ h9 => h9) rfl dX5_swapsAreOdd_11 ?_
        refine lv_bipush (v := nI 23) hx hb dX5_swapsAreOdd_14 (by decide) ?_
        refine lv_iload_n hx hb dX5_swapsAreOdd_16 rfl (lv_at hl 1 rfl) ?_
        refine n_iadd hx hb dX5_swapsAreOdd_17 ?_
        refine r_iald hx hb hK hP 1 3 rfl rfl (by omega) (by decide) dX5_swapsAreOdd_18 ?_
        refine eq_i (y := (gk (pG pv))) (gZ_k (by omega)) ?_
        refine lv_istore_n (lv' := [(2, .int (gk (pG pv))), (0, .ref mh), (1, .int (nI pv))]) hx hb dX5_swapsAreOdd_19 rfl hl (by decide) rfl (fun ls hl => ?_)
        refine lv_iconst (v := nI 0) hx hb dX5_swapsAreOdd_20 (by decide) ?_
        refine lv_istore_n (lv' := [(3, .int (nI 0)), (2, .int (gk (pG pv))), (0, .ref mh), (1, .int (nI pv))]) hx hb dX5_swapsAreOdd_21 rfl hl (by decide) rfl (fun ls hl => ?_)
        have lp22 : ∀ (f : Nat) (c : Nat) (vv : Int32), 12 - c < f → (c ≤ 12) → (vv = if pG pv = 46 then oN c (fx (fun c => decide (tm pL (nr * nc) (97 + c) = 1) && decide (tm pG (nr * nc) (97 + c) = 0)) c) else gk (pG pv)) → ∀ (H : Heap) (locs : List Loc) (ls : Array Slot), va_P G.1 CL (MW G mh md nr nc pL pG pB pk bf hi sv ch hs inp ty er wy wd rf lt ln th tr M1 fo sp wr td) H → va_D A (MW G mh md nr nc pL pG pB pk bf hi sv ch hs inp ty er wy wd rf lt ln th tr M1 fo sp wr td) → va_S A s.heap H locs → lv_has ls 4 [(3, .int (nI c)), (2, .int vv), (0, .ref mh), (1, .int (nI pv))] → W p l e (⟨2, 0, 0, 44⟩ : Room) s m args below meth cd H locs 0 0 Q (F0 m 22 ls []) := by
          intro f
          induction f with
          | zero => intro c vv hf; exact absurd hf (Nat.not_lt_zero _)
          | succ f ih22 =>
            intro c vv hf hc hv H locs ls hP hD hS hl
            refine lv_iload_n hx hb dX5_swapsAreOdd_22 rfl (lv_at hl 0 rfl) ?_
            refine lv_bipush (v := nI 12) hx hb dX5_swapsAreOdd_23 (by decide) ?_
            refine n_cmp_ge (tgt := 66) hx hb dX5_swapsAreOdd_25 (by decide) (by omega) (by omega) (fun c25 => ?_) (fun c25 => ?_)
            · skip
              have hvF : vv = vF (nr * nc) pL pG pv := by
                rw [hv, vF]
                by_cases h46 : pG pv = 46
                · rw [if_pos h46, if_pos h46]
                  by_cases hc12 : c = 12
                  · rw [hc12]
                  · have hvn : ¬ vv = -1 := by first | exact c30 | omega
                    rw [hv, if_pos h46, oN_m1 (by omega)] at hvn
                    have hvl : fx (fun c => decide (tm pL (nr * nc) (97 + c) = 1) && decide (tm pG (nr * nc) (97 + c) = 0)) c < c := Classical.not_not.mp hvn
                    rw [fx_stay hvl (show c ≤ 12 by omega), oN_lt hvl, oN_lt (by omega)]
                · rw [if_neg h46, if_neg h46]
              refine lv_iconst (v := nI 0) hx hb dX5_swapsAreOdd_66 (by decide) ?_
              refine lv_istore_n (lv' := [(3, .int (nI 0)), (2, .int vv), (0, .ref mh), (1, .int (nI pv))]) hx hb dX5_swapsAreOdd_67 rfl hl (by decide) rfl (fun ls hl => ?_)
              have lp68 : ∀ (f : Nat) (q : Nat) (M2 : Nat → Nat), nr * nc - q < f → (q ≤ nr * nc) → (M2 pv = lx (fun q => decide (nI (pL q - 97) = vv)) (M1 pv) q) → (∀ r, ¬ r = pv → M2 r = M1 r) → ∀ (H : Heap) (locs : List Loc) (ls : Array Slot), va_P G.1 CL (MW G mh md nr nc pL pG pB pk bf hi sv ch hs inp ty er wy wd rf lt ln th tr M2 fo sp wr td) H → va_D A (MW G mh md nr nc pL pG pB pk bf hi sv ch hs inp ty er wy wd rf lt ln th tr M2 fo sp wr td) → va_S A s.heap H locs → lv_has ls 4 [(3, .int (nI q)), (2, .int vv), (0, .ref mh), (1, .int (nI pv))] → W p l e (⟨2, 0, 0, 44⟩ : Room) s m args below meth cd H locs 0 0 Q (F0 m 68 ls []) := by
                intro f
                induction f with
                | zero => intro q M2 hf; exact absurd hf (Nat.not_lt_zero _)
                | succ f ih68 =>
                  intro q M2 hf hq9 hM2 hM3 H locs ls hP hD hS hl
                  refine lv_iload_n hx hb dX5_swapsAreOdd_68 rfl (lv_at hl 0 rfl) ?_
                  refine lv_aload_n hx hb dX5_swapsAreOdd_69 rfl (lv_at hl 2 rfl) ?_
                  refine callVi (As := []) (rest := [.int (nI q)]) (wc := (MW G mh md nr nc pL pG pB pk bf hi sv ch hs inp ty er wy wd rf lt ln th tr M2 fo sp wr td)) (wr := ([] : va_W)) ⟨hx, hb, hml, hown, hts⟩ (m_X5_places l G mh md nr nc pL pG pB pk bf hi sv ch hs inp ty er wy wd rf lt ln th tr M2 fo sp wr td ) (cwV 0 hts (lw_V q1817 q1819 qs38 q105 q1820) rfl rfl rfl (by decide +kernel) ⟨Nat.le_of_ble_eq_true rfl, Nat.le_of_ble_eq_true rfl⟩) hK hZ hA hP hD hS [0, 1, 2, 3, 4, 5, 6, 7, 8, 9] [] rfl rfl (by decide) (by decide) (by decide) 0 4 rfl rfl rfl hl.1 (Nat.le_of_ble_eq_true rfl) ⟨Nat.le_of_ble_eq_true rfl, Nat.le_of_ble_eq_true rfl⟩ rfl dX5_swapsAreOdd_70 (fun r9 u9 H locs hw9 hP hD hS => ?_)
                  subst hw9
                  have hP : va_P G.1 CL (MW G mh md nr nc pL pG pB pk bf hi sv ch hs inp ty er wy wd rf lt ln th tr M2 fo sp wr td) _ := hP
                  have hD : va_D A (MW G mh md nr nc pL pG pB pk bf hi sv ch hs inp ty er wy wd rf lt ln th tr M2 fo sp wr td) := hD
                  refine n_cmp_ge (tgt := 111) hx hb dX5_swapsAreOdd_73 (by decide) (by omega) (by omega) (fun c73 => ?_) (fun c73 => ?_)
                  · skip
                    refine lv_iinc (v := nI (pv + 1)) (lv' := [(1, .int (nI (pv + 1))), (3, .int (nI q)), (2, .int vv), (0, .ref mh)]) hx hb dX5_swapsAreOdd_111 hl (k := 3) rfl (nI_add _ _) (by decide) rfl (fun ls hl => ?_)
                    refine lv_goto (tgt := 2) hx hb dX5_swapsAreOdd_114 (by decide) ?_
                    exact ih2 (pv + 1) M2 (by omega) (by omega) (fun r hr => by by_cases z : r = pv; (rw [z, hM2, show q = nr * nc by omega, h2 pv (Nat.le_refl pv), hvF]; rfl); (rw [hM3 r z]; exact h1 r (by omega))) (fun r hr => by rw [hM3 r (by omega)]; exact h2 r (by omega)) _ _ _ hP hD hS (lv_sub hl [3, 0] rfl)
                  · skip
                    refine lv_aload_n hx hb dX5_swapsAreOdd_76 rfl (lv_at hl 2 rfl) ?_
                    refine va_get (D := G.1) (ci := 4) (v := .ref (md 7)) (C := RX5) (T := TX5) (N := 21) hx hb hts in_X5 hown hK hP 0 rfl rfl 16 (by decide) (hts _ q1743) (fun _ h9 => h9) rfl dX5_swapsAreOdd_77 ?_
                    refine lv_iload_n hx hb dX5_swapsAreOdd_80 rfl (lv_at hl 3 rfl) ?_
                    refine lv_aload_n hx hb dX5_swapsAreOdd_81 rfl (lv_at hl 2 rfl) ?_
                    refine va_get (D := G.1) (ci := 4) (v := .ref (md 0)) (C := RX5) (T := TX5) (N := 21) hx hb hts in_X5 hown hK hP 0 rfl rfl 0 (by decide) (hts _ q1727) (fun _ h9 => h9) rfl dX5_swapsAreOdd_82 ?_
                    refine lv_bipush (v := nI 14) hx hb dX5_swapsAreOdd_85 (by decide) ?_
                    refine lv_iload_n hx hb dX5_swapsAreOdd_87 rfl (lv_at hl 0 rfl) ?_
                    refine n_iadd hx hb dX5_swapsAreOdd_88 ?_
                    refine r_iald hx hb hK hP 1 3 rfl rfl (by omega) (by decide) dX5_swapsAreOdd_89 ?_
                    refine eq_i (y := nI (pL q - 97)) (gZ_c (by omega)) ?_
                    refine lv_iload_n hx hb dX5_swapsAreOdd_90 rfl (lv_at hl 1 rfl) ?_
                    refine lv_icmp_ne (tgt := 98) hx hb dX5_swapsAreOdd_91 (by decide) (fun c91 => ?_) (fun c91 => ?_)
                    · skip
                      refine lv_aload_n hx hb dX5_swapsAreOdd_98 rfl (lv_at hl 2 rfl) ?_
                      refine va_get (D := G.1) (ci := 4) (v := .ref (md 7)) (C := RX5) (T := TX5) (N := 21) hx hb hts in_X5 hown hK hP 0 rfl rfl 16 (by decide) (hts _ q1743) (fun _ h9 => h9) rfl dX5_swapsAreOdd_99 ?_
                      refine lv_iload_n hx hb dX5_swapsAreOdd_102 rfl (lv_at hl 3 rfl) ?_
                      refine n_iald hx hb hK hP 8 3 rfl rfl (by omega) (by decide) dX5_swapsAreOdd_103 ?_
                      refine n_iast hx hb hK hP hD hS 8 3 rfl rfl (by omega) (by decide) dX5_swapsAreOdd_104 (fun H locs hP hD hS => ?_)
                      have hP : va_P G.1 CL (MW G mh md nr nc pL pG pB pk bf hi sv ch hs inp ty er wy wd rf lt ln th tr (va_up M2 pv (M2 pv)) fo sp wr td) _ := hP
                      have hD : va_D A (MW G mh md nr nc pL pG pB pk bf hi sv ch hs inp ty er wy wd rf lt ln th tr (va_up M2 pv (M2 pv)) fo sp wr td) := hD
                      refine lv_iinc (v := nI (q + 1)) (lv' := [(3, .int (nI (q + 1))), (2, .int vv), (0, .ref mh), (1, .int (nI pv))]) hx hb dX5_swapsAreOdd_105 hl (k := 0) rfl (nI_add _ _) (by decide) rfl (fun ls hl => ?_)
                      refine lv_goto (tgt := 68) hx hb dX5_swapsAreOdd_108 (by decide) ?_
                      exact ih68 (q + 1) (va_up M2 pv (M2 pv)) (by omega) (by omega) (by unfold va_up; rw [if_pos rfl, lx, if_neg (by rw [decide_eq_false c91]; decide)]; exact hM2) (fun r hr => by unfold va_up; rw [if_neg hr]; exact hM3 r hr) _ _ _ hP hD hS (lv_sub hl [0, 1, 2, 3] rfl)
                    · skip
                      refine lv_iload_n hx hb dX5_swapsAreOdd_94 rfl (lv_at hl 0 rfl) ?_
                      refine lv_goto (tgt := 104) hx hb dX5_swapsAreOdd_95 (by decide) ?_
                      refine n_iast hx hb hK hP hD hS 8 3 rfl rfl (by omega) (by decide) dX5_swapsAreOdd_104 (fun H locs hP hD hS => ?_)
                      have hP : va_P G.1 CL (MW G mh md nr nc pL pG pB pk bf hi sv ch hs inp ty er wy wd rf lt ln th tr (va_up M2 pv q) fo sp wr td) _ := hP
                      have hD : va_D A (MW G mh md nr nc pL pG pB pk bf hi sv ch hs inp ty er wy wd rf lt ln th tr (va_up M2 pv q) fo sp wr td) := hD
                      refine lv_iinc (v := nI (q + 1)) (lv' := [(3, .int (nI (q + 1))), (2, .int vv), (0, .ref mh), (1, .int (nI pv))]) hx hb dX5_swapsAreOdd_105 hl (k := 0) rfl (nI_add _ _) (by decide) rfl (fun ls hl => ?_)
                      refine lv_goto (tgt := 68) hx hb dX5_swapsAreOdd_108 (by decide) ?_
                      exact ih68 (q + 1) (va_up M2 pv q) (by omega) (by omega) (by unfold va_up; rw [if_pos rfl, lx, if_pos (decide_eq_true c91)]) (fun r hr => by unfold va_up; rw [if_neg hr]; exact hM3 r hr) _ _ _ hP hD hS (lv_sub hl [0, 1, 2, 3] rfl)
              exact lp68 _ 0 M1 (Nat.lt_succ_self _) (by omega) rfl (fun r hr => rfl) _ _ _ hP hD hS (lv_sub hl [0, 1, 2, 3] rfl)
            · skip
              refine lv_iload_n hx hb dX5_swapsAreOdd_28 rfl (lv_at hl 1 rfl) ?_
              refine lv_iconst (v := (-1)) hx hb dX5_swapsAreOdd_29 (by decide) ?_
              refine lv_icmp_ne (tgt := 66) hx hb dX5_swapsAreOdd_30 (by decide) (fun c30 => ?_) (fun c30 => ?_)
              · skip
                have hvF : vv = vF (nr * nc) pL pG pv := by
                  rw [hv, vF]
                  by_cases h46 : pG pv = 46
                  · rw [if_pos h46, if_pos h46]
                    by_cases hc12 : c = 12
                    · rw [hc12]
                    · have hvn : ¬ vv = -1 := by first | exact c30 | omega
                      rw [hv, if_pos h46, oN_m1 (by omega)] at hvn
                      have hvl : fx (fun c => decide (tm pL (nr * nc) (97 + c) = 1) && decide (tm pG (nr * nc) (97 + c) = 0)) c < c := Classical.not_not.mp hvn
                      rw [fx_stay hvl (show c ≤ 12 by omega), oN_lt hvl, oN_lt (by omega)]
                  · rw [if_neg h46, if_neg h46]
                refine lv_iconst (v := nI 0) hx hb dX5_swapsAreOdd_66 (by decide) ?_
                refine lv_istore_n (lv' := [(3, .int (nI 0)), (2, .int vv), (0, .ref mh), (1, .int (nI pv))]) hx hb dX5_swapsAreOdd_67 rfl hl (by decide) rfl (fun ls hl => ?_)
                have lp68 : ∀ (f : Nat) (q : Nat) (M2 : Nat → Nat), nr * nc - q < f → (q ≤ nr * nc) → (M2 pv = lx (fun q => decide (nI (pL q - 97) = vv)) (M1 pv) q) → (∀ r, ¬ r = pv → M2 r = M1 r) → ∀ (H : Heap) (locs : List Loc) (ls : Array Slot), va_P G.1 CL (MW G mh md nr nc pL pG pB pk bf hi sv ch hs inp ty er wy wd rf lt ln th tr M2 fo sp wr td) H → va_D A (MW G mh md nr nc pL pG pB pk bf hi sv ch hs inp ty er wy wd rf lt ln th tr M2 fo sp wr td) → va_S A s.heap H locs → lv_has ls 4 [(3, .int (nI q)), (2, .int vv), (0, .ref mh), (1, .int (nI pv))] → W p l e (⟨2, 0, 0, 44⟩ : Room) s m args below meth cd H locs 0 0 Q (F0 m 68 ls []) := by
                  intro f
                  induction f with
                  | zero => intro q M2 hf; exact absurd hf (Nat.not_lt_zero _)
                  | succ f ih68 =>
                    intro q M2 hf hq9 hM2 hM3 H locs ls hP hD hS hl
                    refine lv_iload_n hx hb dX5_swapsAreOdd_68 rfl (lv_at hl 0 rfl) ?_
                    refine lv_aload_n hx hb dX5_swapsAreOdd_69 rfl (lv_at hl 2 rfl) ?_
                    refine callVi (As := []) (rest := [.int (nI q)]) (wc := (MW G mh md nr nc pL pG pB pk bf hi sv ch hs inp ty er wy wd rf lt ln th tr M2 fo sp wr td)) (wr := ([] : va_W)) ⟨hx, hb, hml, hown, hts⟩ (m_X5_places l G mh md nr nc pL pG pB pk bf hi sv ch hs inp ty er wy wd rf lt ln th tr M2 fo sp wr td ) (cwV 0 hts (lw_V q1817 q1819 qs38 q105 q1820) rfl rfl rfl (by decide +kernel) ⟨Nat.le_of_ble_eq_true rfl, Nat.le_of_ble_eq_true rfl⟩) hK hZ hA hP hD hS [0, 1, 2, 3, 4, 5, 6, 7, 8, 9] [] rfl rfl (by decide) (by decide) (by decide) 0 4 rfl rfl rfl hl.1 (Nat.le_of_ble_eq_true rfl) ⟨Nat.le_of_ble_eq_true rfl, Nat.le_of_ble_eq_true rfl⟩ rfl dX5_swapsAreOdd_70 (fun r9 u9 H locs hw9 hP hD hS => ?_)
                    subst hw9
                    have hP : va_P G.1 CL (MW G mh md nr nc pL pG pB pk bf hi sv ch hs inp ty er wy wd rf lt ln th tr M2 fo sp wr td) _ := hP
                    have hD : va_D A (MW G mh md nr nc pL pG pB pk bf hi sv ch hs inp ty er wy wd rf lt ln th tr M2 fo sp wr td) := hD
                    refine n_cmp_ge (tgt := 111) hx hb dX5_swapsAreOdd_73 (by decide) (by omega) (by omega) (fun c73 => ?_) (fun c73 => ?_)
                    · skip
                      refine lv_iinc (v := nI (pv + 1)) (lv' := [(1, .int (nI (pv + 1))), (3, .int (nI q)), (2, .int vv), (0, .ref mh)]) hx hb dX5_swapsAreOdd_111 hl (k := 3) rfl (nI_add _ _) (by decide) rfl (fun ls hl => ?_)
                      refine lv_goto (tgt := 2) hx hb dX5_swapsAreOdd_114 (by decide) ?_
                      exact ih2 (pv + 1) M2 (by omega) (by omega) (fun r hr => by by_cases z : r = pv; (rw [z, hM2, show q = nr * nc by omega, h2 pv (Nat.le_refl pv), hvF]; rfl); (rw [hM3 r z]; exact h1 r (by omega))) (fun r hr => by rw [hM3 r (by omega)]; exact h2 r (by omega)) _ _ _ hP hD hS (lv_sub hl [3, 0] rfl)
                    · skip
                      refine lv_aload_n hx hb dX5_swapsAreOdd_76 rfl (lv_at hl 2 rfl) ?_
                      refine va_get (D := G.1) (ci := 4) (v := .ref (md 7)) (C := RX5) (T := TX5) (N := 21) hx hb hts in_X5 hown hK hP 0 rfl rfl 16 (by decide) (hts _ q1743) (fun _ h9 => h9) rfl dX5_swapsAreOdd_77 ?_
                      refine lv_iload_n hx hb dX5_swapsAreOdd_80 rfl (lv_at hl 3 rfl) ?_
                      refine lv_aload_n hx hb dX5_swapsAreOdd_81 rfl (lv_at hl 2 rfl) ?_
                      refine va_get (D := G.1) (ci := 4) (v := .ref (md 0)) (C := RX5) (T := TX5) (N := 21) hx hb hts in_X5 hown hK hP 0 rfl rfl 0 (by decide) (hts _ q1727) (fun _ h9 => h9) rfl dX5_swapsAreOdd_82 ?_
                      refine lv_bipush (v := nI 14) hx hb dX5_swapsAreOdd_85 (by decide) ?_
                      refine lv_iload_n hx hb dX5_swapsAreOdd_87 rfl (lv_at hl 0 rfl) ?_
                      refine n_iadd hx hb dX5_swapsAreOdd_88 ?_
                      refine r_iald hx hb hK hP 1 3 rfl rfl (by omega) (by decide) dX5_swapsAreOdd_89 ?_
                      refine eq_i (y := nI (pL q - 97)) (gZ_c (by omega)) ?_
                      refine lv_iload_n hx hb dX5_swapsAreOdd_90 rfl (lv_at hl 1 rfl) ?_
                      refine lv_icmp_ne (tgt := 98) hx hb dX5_swapsAreOdd_91 (by decide) (fun c91 => ?_) (fun c91 => ?_)
                      · skip
                        refine lv_aload_n hx hb dX5_swapsAreOdd_98 rfl (lv_at hl 2 rfl) ?_
                        refine va_get (D := G.1) (ci := 4) (v := .ref (md 7)) (C := RX5) (T := TX5) (N := 21) hx hb hts in_X5 hown hK hP 0 rfl rfl 16 (by decide) (hts _ q1743) (fun _ h9 => h9) rfl dX5_swapsAreOdd_99 ?_
                        refine lv_iload_n hx hb dX5_swapsAreOdd_102 rfl (lv_at hl 3 rfl) ?_
                        refine n_iald hx hb hK hP 8 3 rfl rfl (by omega) (by decide) dX5_swapsAreOdd_103 ?_
                        refine n_iast hx hb hK hP hD hS 8 3 rfl rfl (by omega) (by decide) dX5_swapsAreOdd_104 (fun H locs hP hD hS => ?_)
                        have hP : va_P G.1 CL (MW G mh md nr nc pL pG pB pk bf hi sv ch hs inp ty er wy wd rf lt ln th tr (va_up M2 pv (M2 pv)) fo sp wr td) _ := hP
                        have hD : va_D A (MW G mh md nr nc pL pG pB pk bf hi sv ch hs inp ty er wy wd rf lt ln th tr (va_up M2 pv (M2 pv)) fo sp wr td) := hD
                        refine lv_iinc (v := nI (q + 1)) (lv' := [(3, .int (nI (q + 1))), (2, .int vv), (0, .ref mh), (1, .int (nI pv))]) hx hb dX5_swapsAreOdd_105 hl (k := 0) rfl (nI_add _ _) (by decide) rfl (fun ls hl => ?_)
                        refine lv_goto (tgt := 68) hx hb dX5_swapsAreOdd_108 (by decide) ?_
                        exact ih68 (q + 1) (va_up M2 pv (M2 pv)) (by omega) (by omega) (by unfold va_up; rw [if_pos rfl, lx, if_neg (by rw [decide_eq_false c91]; decide)]; exact hM2) (fun r hr => by unfold va_up; rw [if_neg hr]; exact hM3 r hr) _ _ _ hP hD hS (lv_sub hl [0, 1, 2, 3] rfl)
                      · skip
                        refine lv_iload_n hx hb dX5_swapsAreOdd_94 rfl (lv_at hl 0 rfl) ?_
                        refine lv_goto (tgt := 104) hx hb dX5_swapsAreOdd_95 (by decide) ?_
                        refine n_iast hx hb hK hP hD hS 8 3 rfl rfl (by omega) (by decide) dX5_swapsAreOdd_104 (fun H locs hP hD hS => ?_)
                        have hP : va_P G.1 CL (MW G mh md nr nc pL pG pB pk bf hi sv ch hs inp ty er wy wd rf lt ln th tr (va_up M2 pv q) fo sp wr td) _ := hP
                        have hD : va_D A (MW G mh md nr nc pL pG pB pk bf hi sv ch hs inp ty er wy wd rf lt ln th tr (va_up M2 pv q) fo sp wr td) := hD
                        refine lv_iinc (v := nI (q + 1)) (lv' := [(3, .int (nI (q + 1))), (2, .int vv), (0, .ref mh), (1, .int (nI pv))]) hx hb dX5_swapsAreOdd_105 hl (k := 0) rfl (nI_add _ _) (by decide) rfl (fun ls hl => ?_)
                        refine lv_goto (tgt := 68) hx hb dX5_swapsAreOdd_108 (by decide) ?_
                        exact ih68 (q + 1) (va_up M2 pv q) (by omega) (by omega) (by unfold va_up; rw [if_pos rfl, lx, if_pos (decide_eq_true c91)]) (fun r hr => by unfold va_up; rw [if_neg hr]; exact hM3 r hr) _ _ _ hP hD hS (lv_sub hl [0, 1, 2, 3] rfl)
                exact lp68 _ 0 M1 (Nat.lt_succ_self _) (by omega) rfl (fun r hr => rfl) _ _ _ hP hD hS (lv_sub hl [0, 1, 2, 3] rfl)
              · skip
                have hp46 : pG pv = 46 ∧ fx (fun c => decide (tm pL (nr * nc) (97 + c) = 1) && decide (tm pG (nr * nc) (97 + c) = 0)) c = c := by
                  by_cases h46 : pG pv = 46
                  · rw [hv, if_pos h46, oN_m1 (by omega)] at c30
                    exact ⟨h46, by have := fx_le (fun c => decide (tm pL (nr * nc) (97 + c) = 1) && decide (tm pG (nr * nc) (97 + c) = 0)) c; omega⟩
                  · rw [hv, if_neg h46] at c30
                    exact absurd ((gk_m1 (hKR pv (by omega))).mp c30) h46
                refine lv_aload_n hx hb dX5_swapsAreOdd_33 rfl (lv_at hl 2 rfl) ?_
                refine lv_bipush (v := nI 14) hx hb dX5_swapsAreOdd_34 (by decide) ?_
                refine lv_iload_n hx hb dX5_swapsAreOdd_36 rfl (lv_at hl 0 rfl) ?_
                refine callVi (As := [.int (nI 14), .int (nI c)]) (rest := []) (wc := (MW G mh md nr nc pL pG pB pk bf hi sv ch hs inp ty er wy wd rf lt ln th tr M1 fo sp wr td)) (wr := ([] : va_W)) ⟨hx, hb, hml, hown, hts⟩ (m_X5_timesOf__L l G mh md nr nc pL pG pB pk bf hi sv ch hs inp ty er wy wd rf lt ln th tr M1 fo sp wr td c (by first | assumption | omega) (by first | assumption | omega) (by first | assumption | omega)) (cwV 2 hts (lw_V q1971 q1973 qs66 q105 q1974) rfl rfl rfl (by decide +kernel) ⟨Nat.le_of_ble_eq_true rfl, Nat.le_of_ble_eq_true rfl⟩) hK hZ hA hP hD hS [0, 1, 2, 3, 4, 5, 6, 7, 8, 9] [] rfl rfl (by decide) (by decide) (by decide) 0 4 rfl rfl rfl hl.1 (Nat.le_of_ble_eq_true rfl) ⟨Nat.le_of_ble_eq_true rfl, Nat.le_of_ble_eq_true rfl⟩ rfl dX5_swapsAreOdd_37 (fun r9 u9 H locs hw9 hP hD hS => ?_)
                subst hw9
                have hP : va_P G.1 CL (MW G mh md nr nc pL pG pB pk bf hi sv ch hs inp ty er wy wd rf lt ln th tr M1 fo sp wr td) _ := hP
                have hD : va_D A (MW G mh md nr nc pL pG pB pk bf hi sv ch hs inp ty er wy wd rf lt ln th tr M1 fo sp wr td) := hD
                refine lv_iconst (v := nI 1) hx hb dX5_swapsAreOdd_40 (by decide) ?_
                refine n_cmp_ne (tgt := 58) hx hb dX5_swapsAreOdd_41 (by decide) (by have := tm_le pL (nr * nc) (97 + c); omega) (by decide) (fun c41 => ?_) (fun c41 => ?_)
                · skip
                  refine lv_iconst (v := (-1)) hx hb dX5_swapsAreOdd_58 (by decide) ?_
                  refine lv_istore_n (lv' := [(2, .int (-1)), (3, .int (nI c)), (0, .ref mh), (1, .int (nI pv))]) hx hb dX5_swapsAreOdd_59 rfl hl (by decide) rfl (fun ls hl => ?_)
                  refine lv_iinc (v := nI (c + 1)) (lv' := [(3, .int (nI (c + 1))), (2, .int (-1)), (0, .ref mh), (1, .int (nI pv))]) hx hb dX5_swapsAreOdd_60 hl (k := 1) rfl (nI_add _ _) (by decide) rfl (fun ls hl => ?_)
                  refine lv_goto (tgt := 22) hx hb dX5_swapsAreOdd_63 (by decide) ?_
                  exact ih22 (c + 1) (-1) (by omega) (by omega) (by rw [if_pos hp46.1, fx_up (P := (fun c => decide (tm pL (nr * nc) (97 + c) = 1) && decide (tm pG (nr * nc) (97 + c) = 0))) hp46.2 (by first | (simp [c41]; done) | (simp [show ¬ tm pG (nr * nc) (97 + c) = 0 by omega]; done)), oN_ge (by omega)]) _ _ _ hP hD hS (lv_sub hl [0, 1, 2, 3] rfl)
                · skip
                  refine lv_aload_n hx hb dX5_swapsAreOdd_44 rfl (lv_at hl 2 rfl) ?_
                  refine lv_bipush (v := nI 23) hx hb dX5_swapsAreOdd_45 (by decide) ?_
                  refine lv_iload_n hx hb dX5_swapsAreOdd_47 rfl (lv_at hl 0 rfl) ?_
                  refine callVi (As := [.int (nI 23), .int (nI c)]) (rest := []) (wc := (MW G mh md nr nc pL pG pB pk bf hi sv ch hs inp ty er wy wd rf lt ln th tr M1 fo sp wr td)) (wr := ([] : va_W)) ⟨hx, hb, hml, hown, hts⟩ (m_X5_timesOf__G l G mh md nr nc pL pG pB pk bf hi sv ch hs inp ty er wy wd rf lt ln th tr M1 fo sp wr td c (by first | assumption | omega) (by first | assumption | omega) (by first | assumption | omega)) (cwV 2 hts (lw_V q1971 q1973 qs66 q105 q1974) rfl rfl rfl (by decide +kernel) ⟨Nat.le_of_ble_eq_true rfl, Nat.le_of_ble_eq_true rfl⟩) hK hZ hA hP hD hS [0, 1, 2, 3, 4, 5, 6, 7, 8, 9] [] rfl rfl (by decide) (by decide) (by decide) 0 4 rfl rfl rfl hl.1 (Nat.le_of_ble_eq_true rfl) ⟨Nat.le_of_ble_eq_true rfl, Nat.le_of_ble_eq_true rfl⟩ rfl dX5_swapsAreOdd_48 (fun r9 u9 H locs hw9 hP hD hS => ?_)
                  subst hw9
                  have hP : va_P G.1 CL (MW G mh md nr nc pL pG pB pk bf hi sv ch hs inp ty er wy wd rf lt ln th tr M1 fo sp wr td) _ := hP
                  have hD : va_D A (MW G mh md nr nc pL pG pB pk bf hi sv ch hs inp ty er wy wd rf lt ln th tr M1 fo sp wr td) := hD
                  refine n_if_ne (tgt := 58) hx hb dX5_swapsAreOdd_51 (by decide) (by have := tm_le pG (nr * nc) (97 + c); omega) (fun c51 => ?_) (fun c51 => ?_)
                  · skip
                    refine lv_iconst (v := (-1)) hx hb dX5_swapsAreOdd_58 (by decide) ?_
                    refine lv_istore_n (lv' := [(2, .int (-1)), (3, .int (nI c)), (0, .ref mh), (1, .int (nI pv))]) hx hb dX5_swapsAreOdd_59 rfl hl (by decide) rfl (fun ls hl => ?_)
                    refine lv_iinc (v := nI (c + 1)) (lv' := [(3, .int (nI (c + 1))), (2, .int (-1)), (0, .ref mh), (1, .int (nI pv))]) hx hb dX5_swapsAreOdd_60 hl (k := 1) rfl (nI_add _ _) (by decide) rfl (fun ls hl => ?_)
                    refine lv_goto (tgt := 22) hx hb dX5_swapsAreOdd_63 (by decide) ?_
                    exact ih22 (c + 1) (-1) (by omega) (by omega) (by rw [if_pos hp46.1, fx_up (P := (fun c => decide (tm pL (nr * nc) (97 + c) = 1) && decide (tm pG (nr * nc) (97 + c) = 0))) hp46.2 (by first | (simp [c41]; done) | (simp [show ¬ tm pG (nr * nc) (97 + c) = 0 by omega]; done)), oN_ge (by omega)]) _ _ _ hP hD hS (lv_sub hl [0, 1, 2, 3] rfl)
                  · skip
                    refine lv_iload_n hx hb dX5_swapsAreOdd_54 rfl (lv_at hl 0 rfl) ?_
                    refine lv_goto (tgt := 59) hx hb dX5_swapsAreOdd_55 (by decide) ?_
                    refine lv_istore_n (lv' := [(2, .int (nI c)), (3, .int (nI c)), (0, .ref mh), (1, .int (nI pv))]) hx hb dX5_swapsAreOdd_59 rfl hl (by decide) rfl (fun ls hl => ?_)
                    refine lv_iinc (v := nI (c + 1)) (lv' := [(3, .int (nI (c + 1))), (2, .int (nI c)), (0, .ref mh), (1, .int (nI pv))]) hx hb dX5_swapsAreOdd_60 hl (k := 1) rfl (nI_add _ _) (by decide) rfl (fun ls hl => ?_)
                    refine lv_goto (tgt := 22) hx hb dX5_swapsAreOdd_63 (by decide) ?_
                    exact ih22 (c + 1) (nI c) (by omega) (by omega) (by rw [if_pos hp46.1, fx_lt (P := (fun c => decide (tm pL (nr * nc) (97 + c) = 1) && decide (tm pG (nr * nc) (97 + c) = 0))) (n := c + 1) (k := c) (by omega) hp46.2 (by simp [c41, c51]), oN_lt (by omega)]) _ _ _ hP hD hS (lv_sub hl [0, 1, 2, 3] rfl)
        exact lp22 _ 0 (gk (pG pv)) (Nat.lt_succ_self _) (by omega) (by by_cases h46 : pG pv = 46; (rw [if_pos h46, h46]; rfl); (rw [if_neg h46])) _ _ _ hP hD hS (lv_sub hl [0, 1, 2, 3] rfl)
  exact lp2 _ 0 mv (Nat.lt_succ_self _) (by omega) (fun r hr => absurd hr (Nat.not_lt_zero _)) (fun r hr => rfl) _ _ _ hP hD hS (lv_sub hl [1, 0] rfl)
