/-! ===== boards that agree where it counts ===== -/
def AG (n : Nat) (L M : Nat → Nat) : Prop := ∀ q, q < n → L q = M q
theorem ay_congr {P R : Nat → Bool} : ∀ {n : Nat}, (∀ k, k < n → P k = R k) → ay P n = ay R n
  | 0, _ => rfl
  | k + 1, h => by simp only [ay]; rw [ay_congr (fun j hj => h j (by omega)), h k (by omega)]
theorem xr_congr {P R : Nat → Bool} : ∀ {n : Nat}, (∀ k, k < n → P k = R k) → xr P n = xr R n
  | 0, _ => rfl
  | k + 1, h => by simp only [xr]; rw [xr_congr (fun j hj => h j (by omega)), h k (by omega)]
theorem sm_congr {P R : Nat → Nat} : ∀ {n : Nat}, (∀ k, k < n → P k = R k) → sm P n = sm R n
  | 0, _ => rfl
  | k + 1, h => by simp only [sm]; rw [sm_congr (fun j hj => h j (by omega)), h k (by omega)]
theorem fx_congr {P R : Nat → Bool} : ∀ {n : Nat}, (∀ k, k < n → P k = R k) → fx P n = fx R n
  | 0, _ => rfl
  | k + 1, h => by simp only [fx]; rw [fx_congr (fun j hj => h j (by omega)), h k (by omega)]
section CG
variable {nr nc : Nat} {L M K N : Nat → Nat} {B : Nat → Bool}
theorem hm_cg (hL : AG (nr * nc) L M) (hK : AG (nr * nc) K N) : hm nr nc L K = hm nr nc M N := cn_congr (fun k hk => by rw [hL k hk, hK k hk])
theorem tn_cg {t : Nat} (hd : 2 ≤ nr ∧ nr ≤ 3 ∧ 2 ≤ nc ∧ nc ≤ 3) (ht : t < 2 * (nr + nc)) (hL : AG (nr * nc) L M) : AG (nr * nc) (tn nr nc t L) (tn nr nc t M) := fun p hp => by
  unfold tn; rw [if_pos hp, if_pos hp]; exact hL _ (gs_lt hd (gs_fin hd ht hp).2.2.1 hp)
theorem vwsN_cg {line : Nat} (hd : 2 ≤ nr ∧ nr ≤ 3 ∧ 2 ≤ nc ∧ nc ≤ 3) (hl : line < nr + nc) (hL : AG (nr * nc) L M) : vwsN nr nc L line = vwsN nr nc M line := cn_congr (fun k hk => by rw [hL _ (plOn_lt hd hl hk).1])
theorem snN_cg {line : Nat} (hd : 2 ≤ nr ∧ nr ≤ 3 ∧ 2 ≤ nc ∧ nc ≤ 3) (hl : line < nr + nc) (hL : AG (nr * nc) L M) : snN nr nc L line = snN nr nc M line := by
  unfold snN
  rw [vwsN_cg hd hl hL]
  congr 1
  refine al_congr (fun k hk => ?_)
  rw [hL _ (plOn_lt hd hl hk).1, hL _ (plOn_lt hd hl (Nat.mod_lt (k + 1) (by omega))).1]
theorem bfN_cg {l : Nat} (hd : 2 ≤ nr ∧ nr ≤ 3 ∧ 2 ≤ nc ∧ nc ≤ 3) (hl : l < nr + nc) (hL : AG (nr * nc) L M) : bfN nr nc L l = bfN nr nc M l := cn_congr (fun o ho => by rw [vwsN_cg hd hl hL, vwsN_cg hd ho hL])
theorem rkN_cg {p : Int32} (hd : 2 ≤ nr ∧ nr ≤ 3 ∧ 2 ≤ nc ∧ nc ≤ 3) (hL : AG (nr * nc) L M) : rkN nr nc L p = rkN nr nc M p := fx_congr (fun l hl => by rw [bfN_cg hd hl hL])
theorem tm_cg {n : Nat} (hL : AG n L M) (c : Nat) : tm L n c = tm M n c := cn_congr (fun k hk => by rw [hL k hk])
theorem lk_cg {n : Nat} (hL : AG n L M) (hK : AG n K N) : lk L K n = lk M N n := ay_congr (fun v _ => by rw [tm_cg hL, tm_cg hK])
theorem ul_cg {n : Nat} (hL : AG n L M) : ul L n = ul M n := cn_congr (fun v _ => by rw [tm_cg hL])
theorem pry_cg {n any : Nat} (hL : AG n L M) (hK : AG n K N) : pry L K n any = pry M N n any := by unfold pry; rw [ul_cg hL, tm_cg hK, lk_cg hL hK]
theorem rch_cg (hd : 2 ≤ nr ∧ nr ≤ 3 ∧ 2 ≤ nc ∧ nc ≤ 3) (hK : AG (nr * nc) K N) : ∀ (d : Nat) {L M : Nat → Nat}, AG (nr * nc) L M → rch nr nc B K d L = rch nr nc B N d M
  | 0, _, _, hL => by simp only [rch]; rw [hm_cg hL hK]
  | d + 1, _, _, hL => by simp only [rch]; exact ay_congr (fun t ht => by rw [rch_cg hd hK d (tn_cg hd ht hL)])
theorem awZ_cg (hd : 2 ≤ nr ∧ nr ≤ 3 ∧ 2 ≤ nc ∧ nc ≤ 3) (hL : AG (nr * nc) L M) (hK : AG (nr * nc) K N) : awZ nr nc L K B = awZ nr nc M N B := by
  unfold awZ; congr 1; funext d; exact rch_cg hd hK d hL
theorem ftN_cg {d : Nat} (hd : 2 ≤ nr ∧ nr ≤ 3 ∧ 2 ≤ nc ∧ nc ≤ 3) (hL : AG (nr * nc) L M) (hK : AG (nr * nc) K N) : ftN nr nc B L K d = ftN nr nc B M N d := fx_congr (fun t ht => by rw [rch_cg hd hK d (tn_cg hd ht hL)])
theorem bsN_cg (hd : 2 ≤ nr ∧ nr ≤ 3 ∧ 2 ≤ nc ∧ nc ≤ 3) (hL : AG (nr * nc) L M) (hK : AG (nr * nc) K N) : ∀ t, t ≤ 2 * (nr + nc) → bsN nr nc B L K t = bsN nr nc B M N t
  | 0, _ => rfl
  | t + 1, ht => by
    simp only [bsN]
    rw [bsN_cg hd hL hK t (by omega), hm_cg (tn_cg (t := t) hd (by omega) hL) hK]
    by_cases h : bsN nr nc B M N t < 2 * (nr + nc)
    · rw [hm_cg (tn_cg hd h hL) hK]
    · rw [if_neg h, if_neg h]
theorem fkN_cg {n p : Nat} (hp : p < n) (hL : AG n L M) (hK : AG n K N) : fkN n L K p = fkN n M N p := by unfold fkN; rw [hK p hp, tm_cg hL]
theorem faN_cg {k : Nat} (hk : k < nr * nc) (hL : AG (nr * nc) L M) (hK : AG (nr * nc) K N) : faN nr nc L K k = faN nr nc M N k := by
  unfold faN
  rw [fkN_cg hk hL hK, hK k hk, fx_congr (P := fun j => decide (L j = N k)) (R := fun j => decide (M j = N k)) (fun j hj => by rw [hL j hj])]
theorem hoN_cg {n p : Nat} (hp : p < n) (hL : AG n L M) (hK : AG n K N) : hoN n L K p = hoN n M N p := by
  unfold hoN
  rw [hL p hp, fx_congr (P := fun j => decide (K j = M p)) (R := fun j => decide (N j = M p)) (fun j hj => by rw [hK j hj]), fx_congr (P := fun j => decide (K j = 46)) (R := fun j => decide (N j = 46)) (fun j hj => by rw [hK j hj])]
theorem iv_cg {n : Nat} {f g : Nat → Nat} (h : AG n f g) : iv f n = iv g n := xr_congr (fun k hk => xr_congr (fun j hj => by rw [h k hk, h j (by omega)]))
theorem wkN_cg {n : Nat} {f g : Nat → Nat} (h : AG n f g) (hf : ∀ p, p < n → f p < n) : ∀ (m : Nat) (s : Nat → Bool) (a c : Nat), a < n → wkN f m s a c = wkN g m s a c
  | 0, _, _, _, _ => rfl
  | m + 1, s, a, c, ha => by
    simp only [wkN]
    rw [wkN_cg h hf m _ _ _ (hf a ha), h a ha]
theorem odS_cg {n : Nat} {f g : Nat → Nat} (h : AG n f g) (hf : ∀ p, p < n → f p < n) : ∀ k, k ≤ n → odS f k = odS g k
  | 0, _ => rfl
  | k + 1, hk => by simp only [odS]; rw [odS_cg h hf k (by omega), wkN_cg h hf 10 _ k 0 (by omega)]
theorem odN_cg {n : Nat} {f g : Nat → Nat} (h : AG n f g) (hf : ∀ p, p < n → f p < n) : odN f n = odN g n := by unfold odN; rw [odS_cg h hf n (Nat.le_refl n)]
theorem otN_cg (hd : 2 ≤ nr ∧ nr ≤ 3 ∧ 2 ≤ nc ∧ nc ≤ 3) (hLR : ∀ q, q < nr * nc → 97 ≤ L q ∧ L q ≤ 108) (hKR : ∀ q, q < nr * nc → K q = 46 ∨ (97 ≤ K q ∧ K q ≤ 108)) (hL : AG (nr * nc) L M) (hK : AG (nr * nc) K N) : otN nr nc L K = otN nr nc M N := by
  have hm := dm_mul hd
  unfold otN
  rw [lk_cg hL hK, pry_cg (any := 1) hL hK]
  cases hp : pry M N (nr * nc) 1
  · simp
  · rw [odN_cg (fun p hp => hoN_cg hp hL hK) (ho_lt (by omega) hLR hKR (by rw [pry_cg hL hK]; exact hp))]
theorem txN_cg {n : Nat} (hL : AG n L M) : ∀ i, i ≤ n → txN nc L i = txN nc M i
  | 0, _ => rfl
  | i + 1, h => by simp only [txN]; rw [txN_cg hL i (by omega), hL i (by omega)]
theorem lsN_cg {n : Nat} (hL : AG n L M) : ∀ i, i ≤ n → lsN L i = lsN M i
  | 0, _ => rfl
  | i + 1, h => by simp only [lsN]; rw [lsN_cg hL i (by omega), hL i (by omega)]
theorem lineX_cg {l : Nat} (hd : 2 ≤ nr ∧ nr ≤ 3 ∧ 2 ≤ nc ∧ nc ≤ 3) (hl : l < nr + nc) (hL : AG (nr * nc) L M) : lineX nr nc L B l = lineX nr nc M B l := by
  unfold lineX
  rw [snN_cg hd hl hL, lsN_cg (n := szOf nr nc l) (M := fun k => M (plOn nr nc l k)) (fun k hk => hL _ (plOn_lt hd hl hk).1) _ (Nat.le_refl _)]
theorem scLN_cg {seed : Nat} (hd : 2 ≤ nr ∧ nr ≤ 3 ∧ 2 ≤ nc ∧ nc ≤ 3) (hL : AG (nr * nc) L M) : ∀ k, AG (nr * nc) (scLN nr nc B seed L k) (scLN nr nc B seed M k)
  | 0 => hL
  | k + 1 => by
    simp only [scLN]
    by_cases h : B (sctN nr nc seed k / 2) = true
    · rw [if_pos h, if_pos h]; exact scLN_cg hd hL k
    · rw [if_neg h, if_neg h]; exact tn_cg hd (Nat.mod_lt _ (by omega)) (scLN_cg hd hL k)
theorem boV_cg {w : Int32} (hL : AG (nr * nc) L M) (hK : AG (nr * nc) K N) : boV nr nc L K B w = boV nr nc M N B w := by
  unfold boV; rw [ul_cg hL, tm_cg hK, cn_congr (P := fun k => vw (L k)) (R := fun k => vw (M k)) (fun k hk => by rw [hL k hk])]
theorem up_cg {n p v : Nat} (hL : AG n L M) : AG n (va_up L p v) (va_up M p v) := fun q hq => by
  by_cases e : q = p
  · subst e; rw [va_up_self, va_up_self]
  · rw [va_up_ne _ _ e, va_up_ne _ _ e]; exact hL q hq
theorem swL_cg {n a b : Nat} (ha : a < n) (hb : b < n) (hL : AG n L M) : AG n (swL L a b) (swL M a b) := by unfold swL; rw [hL a ha, hL b hb]; exact up_cg (up_cg hL)
end CG
def ZA (z w : ZT) : Prop := ∃ (nr nc : Nat) (L M K N : Nat → Nat) (B : Nat → Bool) (k : Nat → Int32), z = (nr, nc, L, K, B, k) ∧ w = (nr, nc, M, N, B, k) ∧ AG (nr * nc) L M ∧ AG (nr * nc) K N
def OZ (o p : OT) : Prop := o.1 = p.1 ∧ ZA o.2.1 p.2.1 ∧ o.2.2.1 = p.2.2.1 ∧ o.2.2.2 = p.2.2.2
theorem ix_cl {p : Int32} {n : Nat} (h : isIx p n = true) (hn : n < 2147483648) : cl_ p < n := by
  obtain ⟨k, hk, rfl⟩ := isIx_t h hn
  rw [cl_n (by omega)]; exact hk
theorem oz_board {J J' : Nat → Nat} {z w : ZT} (h : ZA z w) (x y : Int32) : OZ (oBoard J z x y) (oBoard J' w x y) := by
  obtain ⟨nr, nc, L, M, K, N, B, k, rfl, rfl, hL, hK⟩ := h
  unfold oBoard
  by_cases hc : (decide (nI 2 ≤ x ∧ x ≤ nI 3) && decide (nI 2 ≤ y ∧ y ≤ nI 3)) = true
  · rw [if_pos hc, if_pos hc]
    exact ⟨rfl, ⟨_, _, _, _, _, _, _, _, rfl, rfl, fun q hq => by unfold bdL; rw [if_pos hq, if_pos hq], fun q hq => by unfold bdL; rw [if_pos hq, if_pos hq]⟩, rfl, rfl⟩
  · rw [if_neg hc, if_neg hc]; exact ⟨rfl, ⟨_, _, _, _, _, _, _, _, rfl, rfl, hL, hK⟩, rfl, rfl⟩
theorem oz_put {z w : ZT} (hv : vZ z) (h : ZA z w) (x y : Int32) : OZ (oPut z x y) (oPut w x y) := by
  obtain ⟨nr, nc, L, M, K, N, B, k, rfl, rfl, hL, hK⟩ := h
  have hm := dm_mul hv.1
  unfold oPut
  simp only at hm ⊢
  by_cases hc : isIx x (nr * nc) = true
  · have hx := hL _ (ix_cl hc (by omega))
    rw [if_pos hc, if_pos hc, hx]
    by_cases h2 : decide (nI 97 ≤ y ∧ y ≤ nI 108) = true
    · rw [if_pos h2, if_pos h2]
      by_cases h3 : M (cl_ x) = cl_ y
      · rw [if_pos h3, if_pos h3]; exact ⟨rfl, ⟨_, _, _, _, _, _, _, _, rfl, rfl, hL, hK⟩, rfl, rfl⟩
      · rw [if_neg h3, if_neg h3]; exact ⟨rfl, ⟨_, _, _, _, _, _, _, _, rfl, rfl, up_cg hL, hK⟩, rfl, rfl⟩
    · rw [if_neg h2, if_neg h2]; exact ⟨rfl, ⟨_, _, _, _, _, _, _, _, rfl, rfl, hL, hK⟩, rfl, rfl⟩
  · rw [if_neg hc, if_neg hc]; exact ⟨rfl, ⟨_, _, _, _, _, _, _, _, rfl, rfl, hL, hK⟩, rfl, rfl⟩
theorem oz_goal {z w : ZT} (hv : vZ z) (h : ZA z w) (x y : Int32) : OZ (oGoal z x y) (oGoal w x y) := by
  obtain ⟨nr, nc, L, M, K, N, B, k, rfl, rfl, hL, hK⟩ := h
  have hm := dm_mul hv.1
  unfold oGoal
  simp only at hm ⊢
  by_cases hc : isIx x (nr * nc) = true
  · have hx := hK _ (ix_cl hc (by omega))
    rw [if_pos hc, if_pos hc, hx]
    by_cases h2 : (decide (nI 97 ≤ y ∧ y ≤ nI 108) || decide (y = nI 46)) = true
    · rw [if_pos h2, if_pos h2]
      by_cases h3 : N (cl_ x) = cl_ y
      · rw [if_pos h3, if_pos h3]; exact ⟨rfl, ⟨_, _, _, _, _, _, _, _, rfl, rfl, hL, hK⟩, rfl, rfl⟩
      · rw [if_neg h3, if_neg h3]; exact ⟨rfl, ⟨_, _, _, _, _, _, _, _, rfl, rfl, hL, up_cg hK⟩, rfl, rfl⟩
    · rw [if_neg h2, if_neg h2]; exact ⟨rfl, ⟨_, _, _, _, _, _, _, _, rfl, rfl, hL, hK⟩, rfl, rfl⟩
  · rw [if_neg hc, if_neg hc]; exact ⟨rfl, ⟨_, _, _, _, _, _, _, _, rfl, rfl, hL, hK⟩, rfl, rfl⟩
theorem turnK_cg {nr nc t : Nat} {L M K N : Nat → Nat} {k : Nat → Int32} (hd : 2 ≤ nr ∧ nr ≤ 3 ∧ 2 ≤ nc ∧ nc ≤ 3) (ht : t < 2 * (nr + nc)) (hL : AG (nr * nc) L M) (hK : AG (nr * nc) K N) : turnK nr nc L K k t = turnK nr nc M N k t := by
  unfold turnK; rw [hm_cg (tn_cg hd ht hL) hK, hm_cg hL hK]
theorem oz_turn {z w : ZT} (hv : vZ z) (h : ZA z w) (x : Int32) : OZ (oTurn z x) (oTurn w x) := by
  obtain ⟨nr, nc, L, M, K, N, B, k, rfl, rfl, hL, hK⟩ := h
  have hd := hv.1
  unfold oTurn
  simp only at hd ⊢
  by_cases hc : isIx x (2 * (nr + nc)) = true
  · have ht := ix_cl hc (by omega)
    rw [if_pos hc, if_pos hc]
    by_cases h2 : B (cl_ x / 2) = true
    · rw [if_pos h2, if_pos h2]; exact ⟨rfl, ⟨_, _, _, _, _, _, _, _, rfl, rfl, hL, hK⟩, rfl, rfl⟩
    · rw [if_neg h2, if_neg h2, turnK_cg hd ht hL hK, hm_cg (tn_cg hd ht hL) hK]
      exact ⟨rfl, ⟨_, _, _, _, _, _, _, _, rfl, rfl, tn_cg hd ht hL, hK⟩, rfl, rfl⟩
  · rw [if_neg hc, if_neg hc]; exact ⟨rfl, ⟨_, _, _, _, _, _, _, _, rfl, rfl, hL, hK⟩, rfl, rfl⟩
theorem oz_swap {z w : ZT} (hv : vZ z) (h : ZA z w) (x y : Int32) : OZ (oSwap z x y) (oSwap w x y) := by
  obtain ⟨nr, nc, L, M, K, N, B, k, rfl, rfl, hL, hK⟩ := h
  have hm := dm_mul hv.1
  unfold oSwap
  simp only at hm ⊢
  by_cases hc : (isIx x (nr * nc) && isIx y (nr * nc)) = true
  · have h1 := ix_cl (Bool.and_eq_true _ _ ▸ hc).1 (by omega)
    have h2 := ix_cl (Bool.and_eq_true _ _ ▸ hc).2 (by omega)
    rw [if_pos hc, if_pos hc]
    by_cases h3 : x = y
    · rw [if_pos h3, if_pos h3]; exact ⟨rfl, ⟨_, _, _, _, _, _, _, _, rfl, rfl, hL, hK⟩, rfl, rfl⟩
    · rw [if_neg h3, if_neg h3, hm_cg (swL_cg h1 h2 hL) hK]
      exact ⟨rfl, ⟨_, _, _, _, _, _, _, _, rfl, rfl, swL_cg h1 h2 hL, hK⟩, rfl, rfl⟩
  · rw [if_neg hc, if_neg hc]; exact ⟨rfl, ⟨_, _, _, _, _, _, _, _, rfl, rfl, hL, hK⟩, rfl, rfl⟩
theorem oz_bar {z w : ZT} (h : ZA z w) (x : Int32) : OZ (oBar z x) (oBar w x) := by
  obtain ⟨nr, nc, L, M, K, N, B, k, rfl, rfl, hL, hK⟩ := h
  unfold oBar
  simp only
  split
  · exact ⟨rfl, ⟨_, _, _, _, _, _, _, _, rfl, rfl, hL, hK⟩, rfl, rfl⟩
  · exact ⟨rfl, ⟨_, _, _, _, _, _, _, _, rfl, rfl, hL, hK⟩, rfl, rfl⟩
theorem oz_scr {z w : ZT} (hv : vZ z) (h : ZA z w) (x y : Int32) : OZ (oScr z x y) (oScr w x y) := by
  obtain ⟨nr, nc, L, M, K, N, B, k, rfl, rfl, hL, hK⟩ := h
  have hd := hv.1
  unfold oScr
  simp only at hd ⊢
  split
  · exact ⟨rfl, ⟨_, _, _, _, _, _, _, _, rfl, rfl, scLN_cg hd hL _, hK⟩, rfl, rfl⟩
  · exact ⟨rfl, ⟨_, _, _, _, _, _, _, _, rfl, rfl, hL, hK⟩, rfl, rfl⟩
theorem oz_step {z w : ZT} (hv : vZ z) (h : ZA z w) : OZ (oStep z) (oStep w) := by
  obtain ⟨nr, nc, L, M, K, N, B, k, rfl, rfl, hL, hK⟩ := h
  obtain ⟨hd, hLR, hKR, _, _⟩ := hv
  simp only at hd hLR hKR
  have ha : awN (rchZ (nr, nc, L, K, B, k)) = awN (rchZ (nr, nc, M, N, B, k)) := awZ_cg hd hL hK
  unfold oStep
  simp only
  rw [hm_cg hL hK, otN_cg hd hLR hKR hL hK, ha]
  by_cases h1 : hm nr nc M N = nr * nc
  · rw [if_pos h1, if_pos h1]; exact ⟨rfl, ⟨_, _, _, _, _, _, _, _, rfl, rfl, hL, hK⟩, rfl, rfl⟩
  · rw [if_neg h1, if_neg h1]
    by_cases h2 : otN nr nc M N = true
    · rw [if_pos h2, if_pos h2]; exact ⟨rfl, ⟨_, _, _, _, _, _, _, _, rfl, rfl, hL, hK⟩, rfl, rfl⟩
    · rw [if_neg h2, if_neg h2]
      by_cases h3 : awN (rchZ (nr, nc, M, N, B, k)) = 4
      · rw [if_pos h3, if_pos h3]; exact ⟨rfl, ⟨_, _, _, _, _, _, _, _, rfl, rfl, hL, hK⟩, rfl, rfl⟩
      · rw [if_neg h3, if_neg h3]
        have ht : ftN nr nc B M N (awN (rchZ (nr, nc, M, N, B, k)) - 1) < 2 * (nr + nc) := by
          have h4 := awN_le (rchZ (nr, nc, M, N, B, k))
          refine ft_lt (K := N) (L := M) (B := B) (by omega) ?_ (show awN (rchZ (nr, nc, M, N, B, k)) < 4 by omega)
          show 1 ≤ awN (rchZ (nr, nc, M, N, B, k))
          have h0 : ¬ rchZ (nr, nc, M, N, B, k) 0 = true := fun e => h1 (of_decide_eq_true e)
          unfold awN; rw [if_neg h0]
          (repeat' split) <;> omega
        rw [ftN_cg hd hL hK, turnK_cg hd ht hL hK]
        exact ⟨rfl, ⟨_, _, _, _, _, _, _, _, rfl, rfl, tn_cg hd ht hL, hK⟩, rfl, rfl⟩
theorem oz_ord {J J' : Nat → Nat} {z w : ZT} (hv : vZ z) (h : ZA z w) (o : ORD) : OZ (ordO J z o) (ordO J' w o) := by
  unfold ordO
  split
  · exact oz_board h _ _
  · split
    · exact oz_swap hv h _ _
    · split
      · exact oz_put hv h _ _
      · split
        · exact oz_goal hv h _ _
        · split
          · exact oz_turn hv h _
          · split
            · exact oz_bar h _
            · exact oz_scr hv h _ _
theorem oz_do {J J' : Nat → Nat} (hJ : ∀ i, J i < 65536) : ∀ (os : List ORD) (z w : ZT), vZ z → ZA z w → OZ (doN J os z) (doN J' os w)
  | [], z, w, hv, h => ⟨rfl, h, rfl, rfl⟩
  | o :: os, z, w, hv, h => by
    have h1 := oz_ord (J := J) (J' := J') hv h o
    by_cases h0 : (ordO J z o).1 = 0
    · rw [doN_s h0, doN_s (h1.1 ▸ h0)]
      exact oz_do hJ os _ _ (vZ_ord hJ hv o) h1.2.1
    · rw [doN_f h0, doN_f (h1.1 ▸ h0), h1.2.2.2]
      exact ⟨rfl, h, rfl, rfl⟩
theorem oz_run {J J' t : Nat → Nat} {n : Nat} {z w : ZT} (hJ : ∀ i, J i < 65536) (hv : vZ z) (h : ZA z w) : OZ (runO J t n z) (runO J' t n w) := by
  have h1 := oz_do (J' := J') hJ (rdP t n 62 0).2.2 z w hv h
  unfold runO
  rw [h1.1, h1.2.2.2]
  split
  · exact ⟨rfl, h, rfl, rfl⟩
  · split
    · exact ⟨rfl, h1.2.1, rfl, rfl⟩
    · exact ⟨rfl, h, rfl, rfl⟩
