/-- pairs that stand the wrong way round, odd or even -/
def iv (f : Nat → Nat) (n : Nat) : Bool := xr (fun k => xr (fun j => decide (f k < f j)) k) n
theorem fx_cn {P : Nat → Bool} : ∀ {n : Nat}, 0 < cn P n → fx P n < n
  | 0, h => absurd h (Nat.lt_irrefl 0)
  | k + 1, h => by
    simp only [fx]
    by_cases h1 : fx P k < k
    · rw [if_pos h1]; omega
    · rw [if_neg h1]
      by_cases h2 : P k = true
      · rw [if_pos h2]; omega
      · have h3 : cn P (k + 1) = cn P k := by simp [cn, h2]
        rw [h3] at h
        exact absurd (fx_cn h) h1
theorem div_ltm {p nr nc : Nat} (h : p < nr * nc) : p / nc < nr := Nat.div_lt_of_lt_mul (by rw [Nat.mul_comm]; exact h)
theorem szOf_on {nr nc line : Nat} (h : line < nr) : szOf nr nc line = nc := if_pos h
theorem szOf_off {nr nc line : Nat} (h : ¬ line < nr) : szOf nr nc line = nr := if_neg h
def sdN (seed : Nat) : Nat → Nat
  | 0 => seed
  | k + 1 => (73 * sdN seed k + 41) % 1000
theorem sdN_lt {seed : Nat} (h : seed < 1000) : ∀ k, sdN seed k < 1000
  | 0 => h
  | k + 1 => Nat.mod_lt _ (by decide)
def sctN (nr nc seed k : Nat) : Nat := sdN seed (k + 1) % (2 * (nr + nc))
def scLN (nr nc : Nat) (B : Nat → Bool) (seed : Nat) (L : Nat → Nat) : Nat → (Nat → Nat)
  | 0 => L
  | k + 1 => if B (sctN nr nc seed k / 2) = true then scLN nr nc B seed L k else tn nr nc (sctN nr nc seed k) (scLN nr nc B seed L k)
def scMN (nr nc : Nat) (B : Nat → Bool) (seed : Nat) (n : Nat) : Nat := cn (fun k => !B (sctN nr nc seed k / 2)) n
theorem scLN_lt {nr nc : Nat} {B : Nat → Bool} {seed b : Nat} {L : Nat → Nat} (h : ∀ i, L i < b) : ∀ k i, scLN nr nc B seed L k i < b
  | 0 => h
  | k + 1 => fun i => by
    simp only [scLN]; split
    · exact scLN_lt h k i
    · exact tn_lt (scLN_lt h k) i
/-- the best turn among the first ones, or T -/
def bsN (nr nc : Nat) (B : Nat → Bool) (L K : Nat → Nat) : Nat → Nat
  | 0 => 2 * (nr + nc)
  | t + 1 => if B (t / 2) = true then bsN nr nc B L K t else if bsN nr nc B L K t < 2 * (nr + nc) then (if hm nr nc (tn nr nc (bsN nr nc B L K t) L) K < hm nr nc (tn nr nc t L) K then t else bsN nr nc B L K t) else t
/-- the first turn of a shortest way of d + 1 turns -/
def ftN (nr nc : Nat) (B : Nat → Bool) (L K : Nat → Nat) (d : Nat) : Nat := fx (fun t => !B (t / 2) && rch nr nc B K d (tn nr nc t L)) (2 * (nr + nc))
def faN (nr nc : Nat) (L K : Nat → Nat) (k : Nat) : Nat := if fkN (nr * nc) L K k = true then farN nr nc k (fx (fun j => decide (L j = K k)) (nr * nc)) else 0
theorem rdN_le (x y n : Nat) : rdN x y n ≤ n := by unfold rdN; omega
theorem rdN_lt {x y n : Nat} (hx : x < n) (hy : y < n) : rdN x y n < n := by
  unfold rdN; split <;> omega
theorem farN_lt {nr nc p q : Nat} (hd : 2 ≤ nr ∧ nr ≤ 3 ∧ 2 ≤ nc ∧ nc ≤ 3) (hp : p < nr * nc) (hq : q < nr * nc) : farN nr nc p q < 10 := by
  have h1 := rdN_lt (div_ltm hp) (div_ltm hq)
  have h2 := rdN_lt (Nat.mod_lt p (show nc > 0 by omega)) (Nat.mod_lt q (show nc > 0 by omega))
  unfold farN; omega
theorem va_cpy_all {L M : Nat → Nat} {n j : Nat} (h : j < n) : va_cpy L M 0 0 n j = L j := by simp [va_cpy, h]
theorem va_cpy_allb {L M : Nat → Bool} {n j : Nat} (h : j < n) : va_cpy L M 0 0 n j = L j := by simp [va_cpy, h]
/-- the letters of a new board -/
def b9 : Nat → Nat := fun k => if k < 9 then 97 + k else 97
theorem b9_lt : ∀ i, b9 i < 65536 := fun i => by unfold b9; split <;> omega
set_option maxHeartbeats 4000000 in
set_option maxRecDepth 100000 in
theorem m_X2_homeOf (l : Launch) (G : GG) (ph : Nat) (pd : Nat → Nat) (nr : Nat) (nc : Nat) (pL : Nat → Nat) (pG : Nat → Nat) (pB : Nat → Bool) (pk : Nat → Int32) (pa : Nat → Nat) (pt : Nat → Nat) (pm : Nat) (pp : Nat) (hd : 2 ≤ nr ∧ nr ≤ 3 ∧ 2 ≤ nc ∧ nc ≤ 3) (hp0 : pp < 9) (hL : ∀ i, pL i < 65536) (hG : ∀ i, pG i < 65536) : MM l G yX2_homeOf cX2_homeOf 3 (some .int) ⟨2, 0, 0, 43⟩ [.ref ph, .int (nI pp)] (PW G ph pd nr nc pL pG pB pk pa pt pm) (Qi_ G (fun (r : Int32) (_ : Unit) => r = (oN (nr * nc) (hoN (nr * nc) pL pG pp))) (fun (_ : Unit) => (PW G ph pd nr nc pL pG pB pk pa pt pm))) := by
  refine MM.of (by decide) (Nat.le_of_ble_eq_true rfl) ?_
  intro p e s m args below meth cd A C hini hA hK hZ hP hD ls hl
  generalize hQ : MQ below ((Qi_ G (fun (r : Int32) (_ : Unit) => r = (oN (nr * nc) (hoN (nr * nc) pL pG pp))) (fun (_ : Unit) => (PW G ph pd nr nc pL pG pB pk pa pt pm))) A) args s (⟨2, 0, 0, 43⟩ : Room).cells (⟨2, 0, 0, 43⟩ : Room).slots A = Q
  obtain ⟨hx, hb, hr, hts, hown, hlk, hml⟩ := C
  have hown : s.vm.findClass RX2 = some m.cls := hown
  have hS : va_S A s.heap s.heap [] := va_S.rf
  have hl : lv_has ls 3 [(0, .ref ph), (1, .int (nI pp))] := hl
  have hmu := dm_mul hd
  refine lv_aload_n hx hb dX2_homeOf_0 rfl (lv_at hl 0 rfl) ?_
  refine lv_aload_n hx hb dX2_homeOf_1 rfl (lv_at hl 0 rfl) ?_
  refine va_get (D := G.1) (ci := 1) (v := .ref (pd 1)) (C := RX2) (T := TX2) (N := 14) hx hb hts in_X2 hown hK hP 0 rfl rfl 3 (by decide) (hts _ q147) (fun _ h9 => h9) rfl dX2_homeOf_2 ?_
  refine lv_aload_n hx hb dX2_homeOf_5 rfl (lv_at hl 0 rfl) ?_
  refine va_get (D := G.1) (ci := 1) (v := .ref (pd 0)) (C := RX2) (T := TX2) (N := 14) hx hb hts in_X2 hown hK hP 0 rfl rfl 2 (by decide) (hts _ q145) (fun _ h9 => h9) rfl dX2_homeOf_6 ?_
  refine lv_iload_n hx hb dX2_homeOf_9 rfl (lv_at hl 1 rfl) ?_
  refine n_cald hx hb hK hP 1 2 rfl rfl (by omega) (by decide) dX2_homeOf_10 ?_
  refine callVi (As := [.ref (pd 1), .int (nI (pL pp))]) (rest := []) (wc := (PW G ph pd nr nc pL pG pB pk pa pt pm)) (wr := ([] : va_W)) ⟨hx, hb, hml, hown, hts⟩ (m_X2_placeOf__G l G ph pd nr nc pL pG pB pk pa pt pm (pL pp) (by first | assumption | omega) (hL _) hG) (cwV 2 hts (lw_V q501 q503 qs5 q89 q504) rfl rfl rfl (by decide +kernel) ⟨Nat.le_of_ble_eq_true rfl, Nat.le_of_ble_eq_true rfl⟩) hK hZ hA hP hD hS [0, 1, 2, 3, 4, 5] [] rfl rfl (by decide) (by decide) (by decide) 0 1 rfl rfl rfl hl.1 (Nat.le_of_ble_eq_true rfl) ⟨Nat.le_of_ble_eq_true rfl, Nat.le_of_ble_eq_true rfl⟩ rfl dX2_homeOf_11 (fun r9 u9 H locs hw9 hP hD hS => ?_)
  subst hw9
  have hP : va_P G.1 CL (PW G ph pd nr nc pL pG pB pk pa pt pm) _ := hP
  have hD : va_D A (PW G ph pd nr nc pL pG pB pk pa pt pm) := hD
  refine lv_istore_n (lv' := [(2, .int (oN (nr * nc) (fx (fun j => decide (pG j = (pL pp))) (nr * nc)))), (0, .ref ph), (1, .int (nI pp))]) hx hb dX2_homeOf_14 rfl hl (by decide) rfl (fun ls hl => ?_)
  refine lv_iload_n hx hb dX2_homeOf_15 rfl (lv_at hl 0 rfl) ?_
  refine lv_iconst (v := (-1)) hx hb dX2_homeOf_16 (by decide) ?_
  refine lv_icmp_ne (tgt := 33) hx hb dX2_homeOf_17 (by decide) (fun c17 => ?_) (fun c17 => ?_)
  · skip
    refine lv_iload_n hx hb dX2_homeOf_33 rfl (lv_at hl 0 rfl) ?_
    subst hQ
    exact ret_i hx hb hr hlk () (by rw [hoN, if_pos (Classical.not_not.mp (fun z => c17 ((oN_m1 (by omega)).mpr z)))]) hP hD hS rfl dX2_homeOf_34
  · skip
    refine lv_aload_n hx hb dX2_homeOf_20 rfl (lv_at hl 1 rfl) ?_
    refine lv_aload_n hx hb dX2_homeOf_21 rfl (lv_at hl 1 rfl) ?_
    refine va_get (D := G.1) (ci := 1) (v := .ref (pd 1)) (C := RX2) (T := TX2) (N := 14) hx hb hts in_X2 hown hK hP 0 rfl rfl 3 (by decide) (hts _ q147) (fun _ h9 => h9) rfl dX2_homeOf_22 ?_
    refine lv_bipush (v := nI 46) hx hb dX2_homeOf_25 (by decide) ?_
    refine callVi (As := [.ref (pd 1), .int (nI 46)]) (rest := []) (wc := (PW G ph pd nr nc pL pG pB pk pa pt pm)) (wr := ([] : va_W)) ⟨hx, hb, hml, hown, hts⟩ (m_X2_placeOf__G l G ph pd nr nc pL pG pB pk pa pt pm 46 (by first | assumption | omega) (by first | assumption | omega) hG) (cwV 2 hts (lw_V q501 q503 qs5 q89 q504) rfl rfl rfl (by decide +kernel) ⟨Nat.le_of_ble_eq_true rfl, Nat.le_of_ble_eq_true rfl⟩) hK hZ hA hP hD hS [0, 1, 2, 3, 4, 5] [] rfl rfl (by decide) (by decide) (by decide) 0 1 rfl rfl rfl hl.1 (Nat.le_of_ble_eq_true rfl) ⟨Nat.le_of_ble_eq_true rfl, Nat.le_of_ble_eq_true rfl⟩ rfl dX2_homeOf_27 (fun r9 u9 H locs hw9 hP hD hS => ?_)
    subst hw9
    have hP : va_P G.1 CL (PW G ph pd nr nc pL pG pB pk pa pt pm) _ := hP
    have hD : va_D A (PW G ph pd nr nc pL pG pB pk pa pt pm) := hD
    refine lv_goto (tgt := 34) hx hb dX2_homeOf_30 (by decide) ?_
    subst hQ
    exact ret_i hx hb hr hlk () (by rw [hoN, if_neg ((oN_m1 (by omega)).mp c17)]) hP hD hS rfl dX2_homeOf_34
set_option maxHeartbeats 4000000 in
set_option maxRecDepth 100000 in
theorem m_X2_isOddAgain (l : Launch) (G : GG) (ph : Nat) (pd : Nat → Nat) (nr : Nat) (nc : Nat) (pL : Nat → Nat) (pG : Nat → Nat) (pB : Nat → Bool) (pk : Nat → Int32) (pa : Nat → Nat) (pt : Nat → Nat) (pm : Nat) (hd : 2 ≤ nr ∧ nr ≤ 3 ∧ 2 ≤ nc ∧ nc ≤ 3) (hL : ∀ i, pL i < 65536) (hG : ∀ i, pG i < 65536) (hpar : ∀ q, q < nr * nc → hoN (nr * nc) pL pG q < nr * nc) : MM l G yX2_isOddAgain cX2_isOddAgain 4 (some .boolean) ⟨3, 0, 0, 65⟩ [.ref ph] (PW G ph pd nr nc pL pG pB pk pa pt pm) (Qi_ G (fun (r : Int32) (_ : Unit) => r = bI (iv (hoN (nr * nc) pL pG) (nr * nc))) (fun (_ : Unit) => (PW G ph pd nr nc pL pG pB pk pa pt pm))) := by
  refine MM.of (by decide) (Nat.le_of_ble_eq_true rfl) ?_
  intro p e s m args below meth cd A C hini hA hK hZ hP hD ls hl
  generalize hQ : MQ below ((Qi_ G (fun (r : Int32) (_ : Unit) => r = bI (iv (hoN (nr * nc) pL pG) (nr * nc))) (fun (_ : Unit) => (PW G ph pd nr nc pL pG pB pk pa pt pm))) A) args s (⟨3, 0, 0, 65⟩ : Room).cells (⟨3, 0, 0, 65⟩ : Room).slots A = Q
  obtain ⟨hx, hb, hr, hts, hown, hlk, hml⟩ := C
  have hown : s.vm.findClass RX2 = some m.cls := hown
  have hS : va_S A s.heap s.heap [] := va_S.rf
  have hl : lv_has ls 4 [(0, .ref ph)] := hl
  have hmu := dm_mul hd
  refine lv_iconst (v := nI 0) hx hb dX2_isOddAgain_0 (by decide) ?_
  refine lv_istore_n (lv' := [(1, .int (nI 0)), (0, .ref ph)]) hx hb dX2_isOddAgain_1 rfl hl (by decide) rfl (fun ls hl => ?_)
  refine lv_iconst (v := nI 0) hx hb dX2_isOddAgain_2 (by decide) ?_
  refine lv_istore_n (lv' := [(2, .int (nI 0)), (1, .int (nI 0)), (0, .ref ph)]) hx hb dX2_isOddAgain_3 rfl hl (by decide) rfl (fun ls hl => ?_)
  have lp4 : ∀ (f : Nat) (k : Nat) (bb : Bool), nr * nc - k < f → (k ≤ nr * nc) → (bb = iv (hoN (nr * nc) pL pG) k) → ∀ (H : Heap) (locs : List Loc) (ls : Array Slot), va_P G.1 CL (PW G ph pd nr nc pL pG pB pk pa pt pm) H → va_D A (PW G ph pd nr nc pL pG pB pk pa pt pm) → va_S A s.heap H locs → lv_has ls 4 [(2, .int (nI k)), (1, .int (bI bb)), (0, .ref ph)] → W p l e (⟨3, 0, 0, 65⟩ : Room) s m args below meth cd H locs 0 0 Q (F0 m 4 ls []) := by
    intro f
    induction f with
    | zero => intro k bb hf; exact absurd hf (Nat.not_lt_zero _)
    | succ f ih4 =>
      intro k bb hf hk hb0 H locs ls hP hD hS hl
      refine lv_iload_n hx hb dX2_isOddAgain_4 rfl (lv_at hl 0 rfl) ?_
      refine lv_aload_n hx hb dX2_isOddAgain_5 rfl (lv_at hl 2 rfl) ?_
      refine callVi (As := []) (rest := [.int (nI k)]) (wc := (PW G ph pd nr nc pL pG pB pk pa pt pm)) (wr := ([] : va_W)) ⟨hx, hb, hml, hown, hts⟩ (m_X2_places l G ph pd nr nc pL pG pB pk pa pt pm ) (cwV 0 hts (lw_V q474 q475 q476 q89 q477) rfl rfl rfl (by decide +kernel) ⟨Nat.le_of_ble_eq_true rfl, Nat.le_of_ble_eq_true rfl⟩) hK hZ hA hP hD hS [0, 1, 2, 3, 4, 5] [] rfl rfl (by decide) (by decide) (by decide) 0 1 rfl rfl rfl hl.1 (Nat.le_of_ble_eq_true rfl) ⟨Nat.le_of_ble_eq_true rfl, Nat.le_of_ble_eq_true rfl⟩ rfl dX2_isOddAgain_6 (fun r9 u9 H locs hw9 hP hD hS => ?_)
      subst hw9
      have hP : va_P G.1 CL (PW G ph pd nr nc pL pG pB pk pa pt pm) _ := hP
      have hD : va_D A (PW G ph pd nr nc pL pG pB pk pa pt pm) := hD
      refine n_cmp_ge (tgt := 52) hx hb dX2_isOddAgain_9 (by decide) (by omega) (by omega) (fun c9 => ?_) (fun c9 => ?_)
      · skip
        refine lv_iload_n hx hb dX2_isOddAgain_52 rfl (lv_at hl 1 rfl) ?_
        subst hQ
        exact ret_i hx hb hr hlk () (congrArg bI (by rw [hb0, show k = nr * nc by omega])) hP hD hS (bI_nar _) dX2_isOddAgain_53
      · skip
        refine lv_iconst (v := nI 0) hx hb dX2_isOddAgain_12 (by decide) ?_
        refine lv_istore_n (lv' := [(3, .int (nI 0)), (2, .int (nI k)), (1, .int (bI bb)), (0, .ref ph)]) hx hb dX2_isOddAgain_13 rfl hl (by decide) rfl (fun ls hl => ?_)
        have lp14 : ∀ (f : Nat) (j : Nat) (b1 : Bool), k - j < f → (j ≤ k) → (b1 = (bb ^^ xr (fun j => decide ((hoN (nr * nc) pL pG) k < (hoN (nr * nc) pL pG) j)) j)) → ∀ (H : Heap) (locs : List Loc) (ls : Array Slot), va_P G.1 CL (PW G ph pd nr nc pL pG pB pk pa pt pm) H → va_D A (PW G ph pd nr nc pL pG pB pk pa pt pm) → va_S A s.heap H locs → lv_has ls 4 [(3, .int (nI j)), (2, .int (nI k)), (1, .int (bI b1)), (0, .ref ph)] → W p l e (⟨3, 0, 0, 65⟩ : Room) s m args below meth cd H locs 0 0 Q (F0 m 14 ls []) := by
          intro f
          induction f with
          | zero => intro j b1 hf; exact absurd hf (Nat.not_lt_zero _)
          | succ f ih14 =>
            intro j b1 hf hj hb1 H locs ls hP hD hS hl
            refine lv_iload_n hx hb dX2_isOddAgain_14 rfl (lv_at hl 0 rfl) ?_
            refine lv_iload_n hx hb dX2_isOddAgain_15 rfl (lv_at hl 1 rfl) ?_
            refine n_cmp_ge (tgt := 46) hx hb dX2_isOddAgain_16 (by decide) (by omega) (by omega) (fun c16 => ?_) (fun c16 => ?_)
            · skip
              refine lv_iinc (v := nI (k + 1)) (lv' := [(2, .int (nI (k + 1))), (3, .int (nI j)), (1, .int (bI b1)), (0, .ref ph)]) hx hb dX2_isOddAgain_46 hl (k := 1) rfl (nI_add _ _) (by decide) rfl (fun ls hl => ?_)
              refine lv_goto (tgt := 4) hx hb dX2_isOddAgain_49 (by decide) ?_
              exact ih4 (k + 1) b1 (by omega) (by omega) (by rw [hb1, show j = k by omega, hb0]; rfl) _ _ _ hP hD hS (lv_sub hl [0, 2, 3] rfl)
            · skip
              refine lv_iload_n hx hb dX2_isOddAgain_19 rfl (lv_at hl 2 rfl) ?_
              refine lv_aload_n hx hb dX2_isOddAgain_20 rfl (lv_at hl 3 rfl) ?_
              refine lv_iload_n hx hb dX2_isOddAgain_21 rfl (lv_at hl 0 rfl) ?_
              refine callVi (As := [.int (nI j)]) (rest := [.int (bI b1)]) (wc := (PW G ph pd nr nc pL pG pB pk pa pt pm)) (wr := ([] : va_W)) ⟨hx, hb, hml, hown, hts⟩ (m_X2_homeOf l G ph pd nr nc pL pG pB pk pa pt pm j (by first | assumption | omega) (by first | assumption | omega) (by first | assumption | omega) (by first | assumption | omega)) (cwV 1 hts (lw_V q497 q499 qs4 q89 q500) rfl rfl rfl (by decide +kernel) ⟨Nat.le_of_ble_eq_true rfl, Nat.le_of_ble_eq_true rfl⟩) hK hZ hA hP hD hS [0, 1, 2, 3, 4, 5] [] rfl rfl (by decide) (by decide) (by decide) 0 1 rfl rfl rfl hl.1 (Nat.le_of_ble_eq_true rfl) ⟨Nat.le_of_ble_eq_true rfl, Nat.le_of_ble_eq_true rfl⟩ rfl dX2_isOddAgain_22 (fun r9 u9 H locs hw9 hP hD hS => ?_)
              subst hw9
              have hP : va_P G.1 CL (PW G ph pd nr nc pL pG pB pk pa pt pm) _ := hP
              have hD : va_D A (PW G ph pd nr nc pL pG pB pk pa pt pm) := hD
              refine eq_i (y := nI (hoN (nr * nc) pL pG j)) (oN_lt (hpar _ (by omega))) ?_
              refine lv_aload_n hx hb dX2_isOddAgain_25 rfl (lv_at hl 3 rfl) ?_
              refine lv_iload_n hx hb dX2_isOddAgain_26 rfl (lv_at hl 1 rfl) ?_
              refine callVi (As := [.int (nI k)]) (rest := [.int (nI (hoN (nr * nc) pL pG j)), .int (bI b1)]) (wc := (PW G ph pd nr nc pL pG pB pk pa pt pm)) (wr := ([] : va_W)) ⟨hx, hb, hml, hown, hts⟩ (m_X2_homeOf l G ph pd nr nc pL pG pB pk pa pt pm k (by first | assumption | omega) (by first | assumption | omega) (by first | assumption | omega) (by first | assumption | omega)) (cwV 1 hts (lw_V q497 q499 qs4 q89 q500) rfl rfl rfl (by decide +kernel) ⟨Nat.le_of_ble_eq_true rfl, Nat.le_of_ble_eq_true rfl⟩) hK hZ hA hP hD hS [0, 1, 2, 3, 4, 5] [] rfl rfl (by decide) (by decide) (by decide) 0 1 rfl rfl rfl hl.1 (Nat.le_of_ble_eq_true rfl) ⟨Nat.le_of_ble_eq_true rfl, Nat.le_of_ble_eq_true rfl⟩ rfl dX2_isOddAgain_27 (fun r9 u9 H locs hw9 hP hD hS => ?_)
              subst hw9
              have hP : va_P G.1 CL (PW G ph pd nr nc pL pG pB pk pa pt pm) _ := hP
              have hD : va_D A (PW G ph pd nr nc pL pG pB pk pa pt pm) := hD
              have hq1 := hpar j (by omega)
              have hq2 := hpar k (by omega)
              refine eq_i (y := nI (hoN (nr * nc) pL pG k)) (oN_lt (hpar _ (by omega))) ?_
              refine n_cmp_le (tgt := 37) hx hb dX2_isOddAgain_30 (by decide) (by omega) (by omega) (fun c30 => ?_) (fun c30 => ?_)
              · skip
                refine lv_iconst (v := nI 0) hx hb dX2_isOddAgain_37 (by decide) ?_
                refine b_ixor (a := b1) (b := false) hx hb dX2_isOddAgain_38 ?_
                refine lv_istore_n (lv' := [(1, .int (bI (b1 ^^ false))), (3, .int (nI j)), (2, .int (nI k)), (0, .ref ph)]) hx hb dX2_isOddAgain_39 rfl hl (by decide) rfl (fun ls hl => ?_)
                refine lv_iinc (v := nI (j + 1)) (lv' := [(3, .int (nI (j + 1))), (1, .int (bI (b1 ^^ false))), (2, .int (nI k)), (0, .ref ph)]) hx hb dX2_isOddAgain_40 hl (k := 1) rfl (nI_add _ _) (by decide) rfl (fun ls hl => ?_)
                refine lv_goto (tgt := 14) hx hb dX2_isOddAgain_43 (by decide) ?_
                exact ih14 (j + 1) (b1 ^^ false) (by omega) (by omega) (by simp [xr, hb1, Nat.not_lt.mpr c30]) _ _ _ hP hD hS (lv_sub hl [0, 2, 1, 3] rfl)
              · skip
                refine lv_iconst (v := nI 1) hx hb dX2_isOddAgain_33 (by decide) ?_
                refine lv_goto (tgt := 38) hx hb dX2_isOddAgain_34 (by decide) ?_
                refine b_ixor (a := b1) (b := true) hx hb dX2_isOddAgain_38 ?_
                refine lv_istore_n (lv' := [(1, .int (bI (b1 ^^ true))), (3, .int (nI j)), (2, .int (nI k)), (0, .ref ph)]) hx hb dX2_isOddAgain_39 rfl hl (by decide) rfl (fun ls hl => ?_)
                refine lv_iinc (v := nI (j + 1)) (lv' := [(3, .int (nI (j + 1))), (1, .int (bI (b1 ^^ true))), (2, .int (nI k)), (0, .ref ph)]) hx hb dX2_isOddAgain_40 hl (k := 1) rfl (nI_add _ _) (by decide) rfl (fun ls hl => ?_)
                refine lv_goto (tgt := 14) hx hb dX2_isOddAgain_43 (by decide) ?_
                exact ih14 (j + 1) (b1 ^^ true) (by omega) (by omega) (by simp [xr, hb1, c30]) _ _ _ hP hD hS (lv_sub hl [0, 2, 1, 3] rfl)
        exact lp14 _ 0 bb (Nat.lt_succ_self _) (by omega) (by simp [xr]) _ _ _ hP hD hS (lv_sub hl [0, 1, 2, 3] rfl)
  exact lp4 _ 0 false (Nat.lt_succ_self _) (by omega) rfl _ _ _ hP hD hS (lv_sub hl [0, 1, 2] rfl)
set_option maxHeartbeats 4000000 in
set_option maxRecDepth 100000 in
theorem m_X2_where (l : Launch) (G : GG) (ph : Nat) (pd : Nat → Nat) (nr : Nat) (nc : Nat) (pL : Nat → Nat) (pG : Nat → Nat) (pB : Nat → Bool) (pk : Nat → Int32) (pa : Nat → Nat) (pt : Nat → Nat) (pm : Nat) (pp : Nat) (tt : Nat) (tms : Nat) (hd : 2 ≤ nr ∧ nr ≤ 3 ∧ 2 ≤ nc ∧ nc ≤ 3) (hp0 : pp < nr * nc) (ht0 : tt < 2 * (nr + nc)) (htm : tms < 100) : MM l G yX2_where cX2_where 8 (some .int) ⟨2, 0, 0, 43⟩ [.ref ph, .int (nI pp), .int (nI tt), .int (nI tms)] (PW G ph pd nr nc pL pG pB pk pa pt pm) (Qi_ G (fun (r : Int32) (_ : Unit) => r = nI (whN nr nc pp tt tms)) (fun (_ : Unit) => (PW G ph pd nr nc pL pG pB pk pa pt pm))) := by
  refine MM.of (by decide) (Nat.le_of_ble_eq_true rfl) ?_
  intro p e s m args below meth cd A C hini hA hK hZ hP hD ls hl
  generalize hQ : MQ below ((Qi_ G (fun (r : Int32) (_ : Unit) => r = nI (whN nr nc pp tt tms)) (fun (_ : Unit) => (PW G ph pd nr nc pL pG pB pk pa pt pm))) A) args s (⟨2, 0, 0, 43⟩ : Room).cells (⟨2, 0, 0, 43⟩ : Room).slots A = Q
  obtain ⟨hx, hb, hr, hts, hown, hlk, hml⟩ := C
  have hown : s.vm.findClass RX2 = some m.cls := hown
  have hS : va_S A s.heap s.heap [] := va_S.rf
  have hl : lv_has ls 8 [(0, .ref ph), (1, .int (nI pp)), (2, .int (nI tt)), (3, .int (nI tms))] := hl
  have hmu := dm_mul hd
  have hz := szOf_lt (line := tt / 2) hd
  have hdv := Nat.div_le_self pp nc
  have hmd := Nat.mod_lt pp (show nc > 0 by omega)
  refine lv_iload_n hx hb dX2_where_0 rfl (lv_at hl 2 rfl) ?_
  refine lv_iconst (v := nI 2) hx hb dX2_where_1 (by decide) ?_
  refine n_idiv hx hb (by omega) (by omega) (by omega) dX2_where_2 ?_
  refine lv_istore (lv' := [(4, .int (nI (tt / 2))), (0, .ref ph), (1, .int (nI pp)), (2, .int (nI tt)), (3, .int (nI tms))]) hx hb dX2_where_3 hl (by decide) rfl (fun ls hl => ?_)
  refine lv_aload_n hx hb dX2_where_5 rfl (lv_at hl 1 rfl) ?_
  refine lv_iload_n hx hb dX2_where_6 rfl (lv_at hl 2 rfl) ?_
  refine lv_iload hx hb dX2_where_7 (lv_at hl 0 rfl) ?_
  refine callVi (As := [.int (nI pp), .int (nI (tt / 2))]) (rest := []) (wc := (PW G ph pd nr nc pL pG pB pk pa pt pm)) (wr := ([] : va_W)) ⟨hx, hb, hml, hown, hts⟩ (m_X2_isOn l G ph pd nr nc pL pG pB pk pa pt pm pp (tt / 2) (by first | assumption | omega) (by first | assumption | omega) (by first | assumption | omega)) (cwV 2 hts (lw_V q1073 q1074 q1075 q89 q1076) rfl rfl rfl (by decide +kernel) ⟨Nat.le_of_ble_eq_true rfl, Nat.le_of_ble_eq_true rfl⟩) hK hZ hA hP hD hS [0, 1, 2, 3, 4, 5] [] rfl rfl (by decide) (by decide) (by decide) 0 1 rfl rfl rfl hl.1 (Nat.le_of_ble_eq_true rfl) ⟨Nat.le_of_ble_eq_true rfl, Nat.le_of_ble_eq_true rfl⟩ rfl dX2_where_9 (fun r9 u9 H locs hw9 hP hD hS => ?_)
  subst hw9
  have hP : va_P G.1 CL (PW G ph pd nr nc pL pG pB pk pa pt pm) _ := hP
  have hD : va_D A (PW G ph pd nr nc pL pG pB pk pa pt pm) := hD
  refine b_if_ne (tgt := 17) hx hb dX2_where_12 (by decide) (fun c12 => ?_) (fun c12 => ?_)
  · skip
    refine lv_aload_n hx hb dX2_where_17 rfl (lv_at hl 1 rfl) ?_
    refine lv_iload hx hb dX2_where_18 (lv_at hl 0 rfl) ?_
    refine callVi (As := [.int (nI (tt / 2))]) (rest := []) (wc := (PW G ph pd nr nc pL pG pB pk pa pt pm)) (wr := ([] : va_W)) ⟨hx, hb, hml, hown, hts⟩ (m_X2_sizeOf l G ph pd nr nc pL pG pB pk pa pt pm (tt / 2) (by first | assumption | omega) (by first | assumption | omega)) (cwV 1 hts (lw_V q580 q581 q582 q89 q583) rfl rfl rfl (by decide +kernel) ⟨Nat.le_of_ble_eq_true rfl, Nat.le_of_ble_eq_true rfl⟩) hK hZ hA hP hD hS [0, 1, 2, 3, 4, 5] [] rfl rfl (by decide) (by decide) (by decide) 0 1 rfl rfl rfl hl.1 (Nat.le_of_ble_eq_true rfl) ⟨Nat.le_of_ble_eq_true rfl, Nat.le_of_ble_eq_true rfl⟩ rfl dX2_where_20 (fun r9 u9 H locs hw9 hP hD hS => ?_)
    subst hw9
    have hP : va_P G.1 CL (PW G ph pd nr nc pL pG pB pk pa pt pm) _ := hP
    have hD : va_D A (PW G ph pd nr nc pL pG pB pk pa pt pm) := hD
    refine lv_istore (lv' := [(5, .int (nI (szOf nr nc (tt / 2)))), (4, .int (nI (tt / 2))), (0, .ref ph), (1, .int (nI pp)), (2, .int (nI tt)), (3, .int (nI tms))]) hx hb dX2_where_23 hl (by decide) rfl (fun ls hl => ?_)
    refine lv_iload hx hb dX2_where_25 (lv_at hl 1 rfl) ?_
    refine lv_aload_n hx hb dX2_where_27 rfl (lv_at hl 2 rfl) ?_
    refine va_get (D := G.1) (ci := 1) (v := .int (nI nr)) (C := RX2) (T := TX2) (N := 14) hx hb hts in_X2 hown hK hP 0 rfl rfl 0 (by decide) (hts _ q141) (fun _ h9 => h9) rfl dX2_where_28 ?_
    refine n_cmp_ge (tgt := 42) hx hb dX2_where_31 (by decide) (by omega) (by omega) (fun c31 => ?_) (fun c31 => ?_)
    · skip
      refine lv_aload_n hx hb dX2_where_42 rfl (lv_at hl 2 rfl) ?_
      refine lv_iload_n hx hb dX2_where_43 rfl (lv_at hl 3 rfl) ?_
      refine callVi (As := [.int (nI pp)]) (rest := []) (wc := (PW G ph pd nr nc pL pG pB pk pa pt pm)) (wr := ([] : va_W)) ⟨hx, hb, hml, hown, hts⟩ (m_X2_rowOf l G ph pd nr nc pL pG pB pk pa pt pm pp (by first | assumption | omega) (by first | assumption | omega)) (cwV 1 hts (lw_V q1077 q1079 qs14 q89 q1080) rfl rfl rfl (by decide +kernel) ⟨Nat.le_of_ble_eq_true rfl, Nat.le_of_ble_eq_true rfl⟩) hK hZ hA hP hD hS [0, 1, 2, 3, 4, 5] [] rfl rfl (by decide) (by decide) (by decide) 0 1 rfl rfl rfl hl.1 (Nat.le_of_ble_eq_true rfl) ⟨Nat.le_of_ble_eq_true rfl, Nat.le_of_ble_eq_true rfl⟩ rfl dX2_where_44 (fun r9 u9 H locs hw9 hP hD hS => ?_)
      subst hw9
      have hP : va_P G.1 CL (PW G ph pd nr nc pL pG pB pk pa pt pm) _ := hP
      have hD : va_D A (PW G ph pd nr nc pL pG pB pk pa pt pm) := hD
      refine lv_istore (lv' := [(6, .int (nI (pp / nc))), (5, .int (nI (szOf nr nc (tt / 2)))), (4, .int (nI (tt / 2))), (0, .ref ph), (1, .int (nI pp)), (2, .int (nI tt)), (3, .int (nI tms))]) hx hb dX2_where_47 hl (by decide) rfl (fun ls hl => ?_)
      refine lv_iload_n hx hb dX2_where_49 rfl (lv_at hl 5 rfl) ?_
      refine lv_iconst (v := nI 2) hx hb dX2_where_50 (by decide) ?_
      refine n_irem hx hb (by omega) (by omega) (by omega) dX2_where_51 ?_
      refine n_if_ne (tgt := 59) hx hb dX2_where_52 (by decide) (by omega) (fun c52 => ?_) (fun c52 => ?_)
      · skip
        refine lv_iload hx hb dX2_where_59 (lv_at hl 1 rfl) ?_
        refine lv_iconst (v := nI 1) hx hb dX2_where_61 (by decide) ?_
        refine n_isub hx hb (by omega) dX2_where_62 ?_
        refine lv_iload_n hx hb dX2_where_63 rfl (lv_at hl 6 rfl) ?_
        refine n_imul hx hb dX2_where_64 ?_
        refine lv_istore (lv' := [(7, .int (nI (((szOf nr nc (tt / 2)) - 1) * tms))), (6, .int (nI (pp / nc))), (5, .int (nI (szOf nr nc (tt / 2)))), (4, .int (nI (tt / 2))), (0, .ref ph), (1, .int (nI pp)), (2, .int (nI tt)), (3, .int (nI tms))]) hx hb dX2_where_65 hl (by decide) rfl (fun ls hl => ?_)
        refine lv_aload_n hx hb dX2_where_67 rfl (lv_at hl 4 rfl) ?_
        refine lv_iload hx hb dX2_where_68 (lv_at hl 3 rfl) ?_
        refine lv_iload hx hb dX2_where_70 (lv_at hl 1 rfl) ?_
        refine lv_iload hx hb dX2_where_72 (lv_at hl 0 rfl) ?_
        have hqm : (szOf nr nc (tt / 2) - 1) * tms ≤ 2 * 99 := Nat.mul_le_mul (by omega) (by omega)
        refine n_iadd hx hb dX2_where_74 ?_
        refine lv_iload hx hb dX2_where_75 (lv_at hl 2 rfl) ?_
        refine n_irem hx hb (by omega) (by omega) (by omega) dX2_where_77 ?_
        refine callVi (As := [.int (nI (tt / 2)), .int (nI (((pp / nc) + (((szOf nr nc (tt / 2)) - 1) * tms)) % (szOf nr nc (tt / 2))))]) (rest := []) (wc := (PW G ph pd nr nc pL pG pB pk pa pt pm)) (wr := ([] : va_W)) ⟨hx, hb, hml, hown, hts⟩ (m_X2_placeOn l G ph pd nr nc pL pG pB pk pa pt pm (tt / 2) (((pp / nc) + (((szOf nr nc (tt / 2)) - 1) * tms)) % (szOf nr nc (tt / 2))) (by first | assumption | omega) (by first | assumption | omega)) (cwV 2 hts (lw_V q588 q589 q590 q89 q591) rfl rfl rfl (by decide +kernel) ⟨Nat.le_of_ble_eq_true rfl, Nat.le_of_ble_eq_true rfl⟩) hK hZ hA hP hD hS [0, 1, 2, 3, 4, 5] [] rfl rfl (by decide) (by decide) (by decide) 0 1 rfl rfl rfl hl.1 (Nat.le_of_ble_eq_true rfl) ⟨Nat.le_of_ble_eq_true rfl, Nat.le_of_ble_eq_true rfl⟩ rfl dX2_where_78 (fun r9 u9 H locs hw9 hP hD hS => ?_)
        subst hw9
        have hP : va_P G.1 CL (PW G ph pd nr nc pL pG pB pk pa pt pm) _ := hP
        have hD : va_D A (PW G ph pd nr nc pL pG pB pk pa pt pm) := hD
        subst hQ
        exact ret_i hx hb hr hlk () (by rw [whN, if_pos c12]; (first | rw [if_pos (show tt / 2 < nr by omega)] | rw [if_neg (show ¬ tt / 2 < nr by omega)]); (first | rw [if_pos (show tt % 2 = 0 by omega)] | rw [if_neg (show ¬ tt % 2 = 0 by omega)])) hP hD hS rfl dX2_where_81
      · skip
        refine lv_iload_n hx hb dX2_where_55 rfl (lv_at hl 6 rfl) ?_
        refine lv_goto (tgt := 65) hx hb dX2_where_56 (by decide) ?_
        refine lv_istore (lv' := [(7, .int (nI tms)), (6, .int (nI (pp / nc))), (5, .int (nI (szOf nr nc (tt / 2)))), (4, .int (nI (tt / 2))), (0, .ref ph), (1, .int (nI pp)), (2, .int (nI tt)), (3, .int (nI tms))]) hx hb dX2_where_65 hl (by decide) rfl (fun ls hl => ?_)
        refine lv_aload_n hx hb dX2_where_67 rfl (lv_at hl 4 rfl) ?_
        refine lv_iload hx hb dX2_where_68 (lv_at hl 3 rfl) ?_
        refine lv_iload hx hb dX2_where_70 (lv_at hl 1 rfl) ?_
        refine lv_iload hx hb dX2_where_72 (lv_at hl 0 rfl) ?_
        have hqm : (szOf nr nc (tt / 2) - 1) * tms ≤ 2 * 99 := Nat.mul_le_mul (by omega) (by omega)
        refine n_iadd hx hb dX2_where_74 ?_
        refine lv_iload hx hb dX2_where_75 (lv_at hl 2 rfl) ?_
        refine n_irem hx hb (by omega) (by omega) (by omega) dX2_where_77 ?_
        refine callVi (As := [.int (nI (tt / 2)), .int (nI (((pp / nc) + tms) % (szOf nr nc (tt / 2))))]) (rest := []) (wc := (PW G ph pd nr nc pL pG pB pk pa pt pm)) (wr := ([] : va_W)) ⟨hx, hb, hml, hown, hts⟩ (m_X2_placeOn l G ph pd nr nc pL pG pB pk pa pt pm (tt / 2) (((pp / nc) + tms) % (szOf nr nc (tt / 2))) (by first | assumption | omega) (by first | assumption | omega)) (cwV 2 hts (lw_V q588 q589 q590 q89 q591) rfl rfl rfl (by decide +kernel) ⟨Nat.le_of_ble_eq_true rfl, Nat.le_of_ble_eq_true rfl⟩) hK hZ hA hP hD hS [0, 1, 2, 3, 4, 5] [] rfl rfl (by decide) (by decide) (by decide) 0 1 rfl rfl rfl hl.1 (Nat.le_of_ble_eq_true rfl) ⟨Nat.le_of_ble_eq_true rfl, Nat.le_of_ble_eq_true rfl⟩ rfl dX2_where_78 (fun r9 u9 H locs hw9 hP hD hS => ?_)
        subst hw9
        have hP : va_P G.1 CL (PW G ph pd nr nc pL pG pB pk pa pt pm) _ := hP
        have hD : va_D A (PW G ph pd nr nc pL pG pB pk pa pt pm) := hD
        subst hQ
        exact ret_i hx hb hr hlk () (by rw [whN, if_pos c12]; (first | rw [if_pos (show tt / 2 < nr by omega)] | rw [if_neg (show ¬ tt / 2 < nr by omega)]); (first | rw [if_pos (show tt % 2 = 0 by omega)] | rw [if_neg (show ¬ tt % 2 = 0 by omega)])) hP hD hS rfl dX2_where_81
    · skip
      refine lv_aload_n hx hb dX2_where_34 rfl (lv_at hl 2 rfl) ?_
      refine lv_iload_n hx hb dX2_where_35 rfl (lv_at hl 3 rfl) ?_
      refine callVi (As := [.int (nI pp)]) (rest := []) (wc := (PW G ph pd nr nc pL pG pB pk pa pt pm)) (wr := ([] : va_W)) ⟨hx, hb, hml, hown, hts⟩ (m_X2_columnOf l G ph pd nr nc pL pG pB pk pa pt pm pp (by first | assumption | omega) (by first | assumption | omega)) (cwV 1 hts (lw_V q1081 q1083 qs15 q89 q1084) rfl rfl rfl (by decide +kernel) ⟨Nat.le_of_ble_eq_true rfl, Nat.le_of_ble_eq_true rfl⟩) hK hZ hA hP hD hS [0, 1, 2, 3, 4, 5] [] rfl rfl (by decide) (by decide) (by decide) 0 1 rfl rfl rfl hl.1 (Nat.le_of_ble_eq_true rfl) ⟨Nat.le_of_ble_eq_true rfl, Nat.le_of_ble_eq_true rfl⟩ rfl dX2_where_36 (fun r9 u9 H locs hw9 hP hD hS => ?_)
      subst hw9
      have hP : va_P G.1 CL (PW G ph pd nr nc pL pG pB pk pa pt pm) _ := hP
      have hD : va_D A (PW G ph pd nr nc pL pG pB pk pa pt pm) := hD
      refine lv_goto (tgt := 47) hx hb dX2_where_39 (by decide) ?_
      refine lv_istore (lv' := [(6, .int (nI (pp % nc))), (5, .int (nI (szOf nr nc (tt / 2)))), (4, .int (nI (tt / 2))), (0, .ref ph), (1, .int (nI pp)), (2, .int (nI tt)), (3, .int (nI tms))]) hx hb dX2_where_47 hl (by decide) rfl (fun ls hl => ?_)
      refine lv_iload_n hx hb dX2_where_49 rfl (lv_at hl 5 rfl) ?_
      refine lv_iconst (v := nI 2) hx hb dX2_where_50 (by decide) ?_
      refine n_irem hx hb (by omega) (by omega) (by omega) dX2_where_51 ?_
      refine n_if_ne (tgt := 59) hx hb dX2_where_52 (by decide) (by omega) (fun c52 => ?_) (fun c52 => ?_)
      · skip
        refine lv_iload hx hb dX2_where_59 (lv_at hl 1 rfl) ?_
        refine lv_iconst (v := nI 1) hx hb dX2_where_61 (by decide) ?_
        refine n_isub hx hb (by omega) dX2_where_62 ?_
        refine lv_iload_n hx hb dX2_where_63 rfl (lv_at hl 6 rfl) ?_
        refine n_imul hx hb dX2_where_64 ?_
        refine lv_istore (lv' := [(7, .int (nI (((szOf nr nc (tt / 2)) - 1) * tms))), (6, .int (nI (pp % nc))), (5, .int (nI (szOf nr nc (tt / 2)))), (4, .int (nI (tt / 2))), (0, .ref ph), (1, .int (nI pp)), (2, .int (nI tt)), (3, .int (nI tms))]) hx hb dX2_where_65 hl (by decide) rfl (fun ls hl => ?_)
        refine lv_aload_n hx hb dX2_where_67 rfl (lv_at hl 4 rfl) ?_
        refine lv_iload hx hb dX2_where_68 (lv_at hl 3 rfl) ?_
        refine lv_iload hx hb dX2_where_70 (lv_at hl 1 rfl) ?_
        refine lv_iload hx hb dX2_where_72 (lv_at hl 0 rfl) ?_
        have hqm : (szOf nr nc (tt / 2) - 1) * tms ≤ 2 * 99 := Nat.mul_le_mul (by omega) (by omega)
        refine n_iadd hx hb dX2_where_74 ?_
        refine lv_iload hx hb dX2_where_75 (lv_at hl 2 rfl) ?_
        refine n_irem hx hb (by omega) (by omega) (by omega) dX2_where_77 ?_
        refine callVi (As := [.int (nI (tt / 2)), .int (nI (((pp % nc) + (((szOf nr nc (tt / 2)) - 1) * tms)) % (szOf nr nc (tt / 2))))]) (rest := []) (wc := (PW G ph pd nr nc pL pG pB pk pa pt pm)) (wr := ([] : va_W)) ⟨hx, hb, hml, hown, hts⟩ (m_X2_placeOn l G ph pd nr nc pL pG pB pk pa pt pm (tt / 2) (((pp % nc) + (((szOf nr nc (tt / 2)) - 1) * tms)) % (szOf nr nc (tt / 2))) (by first | assumption | omega) (by first | assumption | omega)) (cwV 2 hts (lw_V q588 q589 q590 q89 q591) rfl rfl rfl (by decide +kernel) ⟨Nat.le_of_ble_eq_true rfl, Nat.le_of_ble_eq_true rfl⟩) hK hZ hA hP hD hS [0, 1, 2, 3, 4, 5] [] rfl rfl (by decide) (by decide) (by decide) 0 1 rfl rfl rfl hl.1 (Nat.le_of_ble_eq_true rfl) ⟨Nat.le_of_ble_eq_true rfl, Nat.le_of_ble_eq_true rfl⟩ rfl dX2_where_78 (fun r9 u9 H locs hw9 hP hD hS => ?_)
        subst hw9
        have hP : va_P G.1 CL (PW G ph pd nr nc pL pG pB pk pa pt pm) _ := hP
        have hD : va_D A (PW G ph pd nr nc pL pG pB pk pa pt pm) := hD
        subst hQ
        exact ret_i hx hb hr hlk () (by rw [whN, if_pos c12]; (first | rw [if_pos (show tt / 2 < nr by omega)] | rw [if_neg (show ¬ tt / 2 < nr by omega)]); (first | rw [if_pos (show tt % 2 = 0 by omega)] | rw [if_neg (show ¬ tt % 2 = 0 by omega)])) hP hD hS rfl dX2_where_81
      · skip
        refine lv_iload_n hx hb dX2_where_55 rfl (lv_at hl 6 rfl) ?_
        refine lv_goto (tgt := 65) hx hb dX2_where_56 (by decide) ?_
        refine lv_istore (lv' := [(7, .int (nI tms)), (6, .int (nI (pp % nc))), (5, .int (nI (szOf nr nc (tt / 2)))), (4, .int (nI (tt / 2))), (0, .ref ph), (1, .int (nI pp)), (2, .int (nI tt)), (3, .int (nI tms))]) hx hb dX2_where_65 hl (by decide) rfl (fun ls hl => ?_)
        refine lv_aload_n hx hb dX2_where_67 rfl (lv_at hl 4 rfl) ?_
        refine lv_iload hx hb dX2_where_68 (lv_at hl 3 rfl) ?_
        refine lv_iload hx hb dX2_where_70 (lv_at hl 1 rfl) ?_
        refine lv_iload hx hb dX2_where_72 (lv_at hl 0 rfl) ?_
        have hqm : (szOf nr nc (tt / 2) - 1) * tms ≤ 2 * 99 := Nat.mul_le_mul (by omega) (by omega)
        refine n_iadd hx hb dX2_where_74 ?_
        refine lv_iload hx hb dX2_where_75 (lv_at hl 2 rfl) ?_
        refine n_irem hx hb (by omega) (by omega) (by omega) dX2_where_77 ?_
        refine callVi (As := [.int (nI (tt / 2)), .int (nI (((pp % nc) + tms) % (szOf nr nc (tt / 2))))]) (rest := []) (wc := (PW G ph pd nr nc pL pG pB pk pa pt pm)) (wr := ([] : va_W)) ⟨hx, hb, hml, hown, hts⟩ (m_X2_placeOn l G ph pd nr nc pL pG pB pk pa pt pm (tt / 2) (((pp % nc) + tms) % (szOf nr nc (tt / 2))) (by first | assumption | omega) (by first | assumption | omega)) (cwV 2 hts (lw_V q588 q589 q590 q89 q591) rfl rfl rfl (by decide +kernel) ⟨Nat.le_of_ble_eq_true rfl, Nat.le_of_ble_eq_true rfl⟩) hK hZ hA hP hD hS [0, 1, 2, 3, 4, 5] [] rfl rfl (by decide) (by decide) (by decide) 0 1 rfl rfl rfl hl.1 (Nat.le_of_ble_eq_true rfl) ⟨Nat.le_of_ble_eq_true rfl, Nat.le_of_ble_eq_true rfl⟩ rfl dX2_where_78 (fun r9 u9 H locs hw9 hP hD hS => ?_)
        subst hw9
        have hP : va_P G.1 CL (PW G ph pd nr nc pL pG pB pk pa pt pm) _ := hP
        have hD : va_D A (PW G ph pd nr nc pL pG pB pk pa pt pm) := hD
        subst hQ
        exact ret_i hx hb hr hlk () (by rw [whN, if_pos c12]; (first | rw [if_pos (show tt / 2 < nr by omega)] | rw [if_neg (show ¬ tt / 2 < nr by omega)]); (first | rw [if_pos (show tt % 2 = 0 by omega)] | rw [if_neg (show ¬ tt % 2 = 0 by omega)])) hP hD hS rfl dX2_where_81
  · skip
    refine lv_iload_n hx hb dX2_where_15 rfl (lv_at hl 2 rfl) ?_
    subst hQ
    exact ret_i hx hb hr hlk () (by rw [whN, if_neg (by rw [c12]; decide)]) hP hD hS rfl dX2_where_16
set_option maxHeartbeats 4000000 in
set_option maxRecDepth 100000 in
theorem m_X2_round (l : Launch) (G : GG) (rx : Nat) (ry : Nat) (rn : Nat) (hx0 : rx < rn) (hy0 : ry < rn) (hn0 : rn < 1000) : MM l G yX2_round cX2_round 4 (some .int) ⟨1, 0, 0, 13⟩ [.int (nI rx), .int (nI ry), .int (nI rn)] ([] : va_W) (Qi_ G (fun (r : Int32) (_ : Unit) => r = nI (rdN rx ry rn)) (fun (_ : Unit) => ([] : va_W))) := by
  refine MM.of (by decide) (Nat.le_of_ble_eq_true rfl) ?_
  intro p e s m args below meth cd A C hini hA hK hZ hP hD ls hl
  generalize hQ : MQ below ((Qi_ G (fun (r : Int32) (_ : Unit) => r = nI (rdN rx ry rn)) (fun (_ : Unit) => ([] : va_W))) A) args s (⟨1, 0, 0, 13⟩ : Room).cells (⟨1, 0, 0, 13⟩ : Room).slots A = Q
  obtain ⟨hx, hb, hr, hts, hown, hlk, hml⟩ := C
  have hown : s.vm.findClass RX2 = some m.cls := hown
  have hS : va_S A s.heap s.heap [] := va_S.rf
  have hl : lv_has ls 4 [(0, .int (nI rx)), (1, .int (nI ry)), (2, .int (nI rn))] := hl
  refine lv_iload_n hx hb dX2_round_0 rfl (lv_at hl 0 rfl) ?_
  refine lv_iload_n hx hb dX2_round_1 rfl (lv_at hl 1 rfl) ?_
  refine lv_isub hx hb dX2_round_2 ?_
  refine n_mabs (x := rx) (y := ry) hx hb (by rw [hml]; exact hl.1.symm) hown (hts _ q1462) (hts _ q1463) (hts _ q103) (hts _ q1464) (Nat.le_of_ble_eq_true rfl) (Nat.le_of_ble_eq_true rfl) (Nat.le_of_ble_eq_true rfl) (Nat.le_of_ble_eq_true rfl) (by omega) (by omega) dX2_round_3 ?_
  refine lv_istore_n (lv' := [(3, .int (nI (if ry ≤ rx then rx - ry else ry - rx))), (0, .int (nI rx)), (1, .int (nI ry)), (2, .int (nI rn))]) hx hb dX2_round_6 rfl hl (by decide) rfl (fun ls hl => ?_)
  refine lv_iload_n hx hb dX2_round_7 rfl (lv_at hl 0 rfl) ?_
  refine lv_iload_n hx hb dX2_round_8 rfl (lv_at hl 3 rfl) ?_
  refine lv_iload_n hx hb dX2_round_9 rfl (lv_at hl 0 rfl) ?_
  refine n_isub hx hb (by split <;> omega) dX2_round_10 ?_
  refine n_mmin hx hb (by rw [hml]; exact hl.1.symm) hown (hts _ q1046) (hts _ q422) (hts _ q103) (hts _ q423) (Nat.le_of_ble_eq_true rfl) (Nat.le_of_ble_eq_true rfl) (Nat.le_of_ble_eq_true rfl) (Nat.le_of_ble_eq_true rfl) (by split <;> omega) (by omega) dX2_round_11 ?_
  subst hQ
  exact ret_i hx hb hr hlk () rfl hP hD hS rfl dX2_round_14
set_option maxHeartbeats 4000000 in
set_option maxRecDepth 100000 in
theorem m_X2_far (l : Launch) (G : GG) (ph : Nat) (pd : Nat → Nat) (nr : Nat) (nc : Nat) (pL : Nat → Nat) (pG : Nat → Nat) (pB : Nat → Bool) (pk : Nat → Int32) (pa : Nat → Nat) (pt : Nat → Nat) (pm : Nat) (pp : Nat) (pq : Nat) (hd : 2 ≤ nr ∧ nr ≤ 3 ∧ 2 ≤ nc ∧ nc ≤ 3) (hp0 : pp < nr * nc) (hq0 : pq < nr * nc) : MM l G yX2_far cX2_far 3 (some .int) ⟨2, 0, 0, 36⟩ [.ref ph, .int (nI pp), .int (nI pq)] (PW G ph pd nr nc pL pG pB pk pa pt pm) (Qi_ G (fun (r : Int32) (_ : Unit) => r = nI (farN nr nc pp pq)) (fun (_ : Unit) => (PW G ph pd nr nc pL pG pB pk pa pt pm))) := by
  refine MM.of (by decide) (Nat.le_of_ble_eq_true rfl) ?_
  intro p e s m args below meth cd A C hini hA hK hZ hP hD ls hl
  generalize hQ : MQ below ((Qi_ G (fun (r : Int32) (_ : Unit) => r = nI (farN nr nc pp pq)) (fun (_ : Unit) => (PW G ph pd nr nc pL pG pB pk pa pt pm))) A) args s (⟨2, 0, 0, 36⟩ : Room).cells (⟨2, 0, 0, 36⟩ : Room).slots A = Q
  obtain ⟨hx, hb, hr, hts, hown, hlk, hml⟩ := C
  have hown : s.vm.findClass RX2 = some m.cls := hown
  have hS : va_S A s.heap s.heap [] := va_S.rf
  have hl : lv_has ls 3 [(0, .ref ph), (1, .int (nI pp)), (2, .int (nI pq))] := hl
  have hmu := dm_mul hd
  refine lv_aload_n hx hb dX2_far_0 rfl (lv_at hl 0 rfl) ?_
  refine lv_iload_n hx hb dX2_far_1 rfl (lv_at hl 1 rfl) ?_
  refine callVi (As := [.int (nI pp)]) (rest := []) (wc := (PW G ph pd nr nc pL pG pB pk pa pt pm)) (wr := ([] : va_W)) ⟨hx, hb, hml, hown, hts⟩ (m_X2_rowOf l G ph pd nr nc pL pG pB pk pa pt pm pp (by first | assumption | omega) (by first | assumption | omega)) (cwV 1 hts (lw_V q1077 q1079 qs14 q89 q1080) rfl rfl rfl (by decide +kernel) ⟨Nat.le_of_ble_eq_true rfl, Nat.le_of_ble_eq_true rfl⟩) hK hZ hA hP hD hS [0, 1, 2, 3, 4, 5] [] rfl rfl (by decide) (by decide) (by decide) 0 1 rfl rfl rfl hl.1 (Nat.le_of_ble_eq_true rfl) ⟨Nat.le_of_ble_eq_true rfl, Nat.le_of_ble_eq_true rfl⟩ rfl dX2_far_2 (fun r9 u9 H locs hw9 hP hD hS => ?_)
  subst hw9
  have hP : va_P G.1 CL (PW G ph pd nr nc pL pG pB pk pa pt pm) _ := hP
  have hD : va_D A (PW G ph pd nr nc pL pG pB pk pa pt pm) := hD
  refine lv_aload_n hx hb dX2_far_5 rfl (lv_at hl 0 rfl) ?_
  refine lv_iload_n hx hb dX2_far_6 rfl (lv_at hl 2 rfl) ?_
  refine callVi (As := [.int (nI pq)]) (rest := [.int (nI (pp / nc))]) (wc := (PW G ph pd nr nc pL pG pB pk pa pt pm)) (wr := ([] : va_W)) ⟨hx, hb, hml, hown, hts⟩ (m_X2_rowOf l G ph pd nr nc pL pG pB pk pa pt pm pq (by first | assumption | omega) (by first | assumption | omega)) (cwV 1 hts (lw_V q1077 q1079 qs14 q89 q1080) rfl rfl rfl (by decide +kernel) ⟨Nat.le_of_ble_eq_true rfl, Nat.le_of_ble_eq_true rfl⟩) hK hZ hA hP hD hS [0, 1, 2, 3, 4, 5] [] rfl rfl (by decide) (by decide) (by decide) 0 1 rfl rfl rfl hl.1 (Nat.le_of_ble_eq_true rfl) ⟨Nat.le_of_ble_eq_true rfl, Nat.le_of_ble_eq_true rfl⟩ rfl dX2_far_7 (fun r9 u9 H locs hw9 hP hD hS => ?_)
  subst hw9
  have hP : va_P G.1 CL (PW G ph pd nr nc pL pG pB pk pa pt pm) _ := hP
  have hD : va_D A (PW G ph pd nr nc pL pG pB pk pa pt pm) := hD
  refine lv_aload_n hx hb dX2_far_10 rfl (lv_at hl 0 rfl) ?_
  refine va_get (D := G.1) (ci := 1) (v := .int (nI nr)) (C := RX2) (T := TX2) (N := 14) hx hb hts in_X2 hown hK hP 0 rfl rfl 0 (by decide) (hts _ q141) (fun _ h9 => h9) rfl dX2_far_11 ?_
  refine callSi (As := [.int (nI (pp / nc)), .int (nI (pq / nc)), .int (nI nr)]) (rest := []) (wc := ([] : va_W)) (wr := (PW G ph pd nr nc pL pG pB pk pa pt pm)) ⟨hx, hb, hml, hown, hts⟩ (m_X2_round l G (pp / nc) (pq / nc) nr (div_ltm hp0) (div_ltm hq0) (by first | assumption | omega)) (va_cwS 3 hts (lw_S q1459 q1460 q89 q1461) rfl rfl rfl (by decide +kernel) ⟨Nat.le_of_ble_eq_true rfl, Nat.le_of_ble_eq_true rfl⟩) hK hZ hA hP hD hS [] [0, 1, 2, 3, 4, 5] rfl rfl (by decide) (by decide) (by decide) rfl hl.1 (Nat.le_of_ble_eq_true rfl) ⟨Nat.le_of_ble_eq_true rfl, Nat.le_of_ble_eq_true rfl⟩ rfl dX2_far_14 (fun r9 u9 H locs hw9 hP hD hS => ?_)
  subst hw9
  have hP : va_P G.1 CL (PW G ph pd nr nc pL pG pB pk pa pt pm) _ := hP
  have hD : va_D A (PW G ph pd nr nc pL pG pB pk pa pt pm) := hD
  refine lv_aload_n hx hb dX2_far_17 rfl (lv_at hl 0 rfl) ?_
  refine lv_iload_n hx hb dX2_far_18 rfl (lv_at hl 1 rfl) ?_
  refine callVi (As := [.int (nI pp)]) (rest := [.int (nI (rdN (pp / nc) (pq / nc) nr))]) (wc := (PW G ph pd nr nc pL pG pB pk pa pt pm)) (wr := ([] : va_W)) ⟨hx, hb, hml, hown, hts⟩ (m_X2_columnOf l G ph pd nr nc pL pG pB pk pa pt pm pp (by first | assumption | omega) (by first | assumption | omega)) (cwV 1 hts (lw_V q1081 q1083 qs15 q89 q1084) rfl rfl rfl (by decide +kernel) ⟨Nat.le_of_ble_eq_true rfl, Nat.le_of_ble_eq_true rfl⟩) hK hZ hA hP hD hS [0, 1, 2, 3, 4, 5] [] rfl rfl (by decide) (by decide) (by decide) 0 1 rfl rfl rfl hl.1 (Nat.le_of_ble_eq_true rfl) ⟨Nat.le_of_ble_eq_true rfl, Nat.le_of_ble_eq_true rfl⟩ rfl dX2_far_19 (fun r9 u9 H locs hw9 hP hD hS => ?_)
  subst hw9
  have hP : va_P G.1 CL (PW G ph pd nr nc pL pG pB pk pa pt pm) _ := hP
  have hD : va_D A (PW G ph pd nr nc pL pG pB pk pa pt pm) := hD
  refine lv_aload_n hx hb dX2_far_22 rfl (lv_at hl 0 rfl) ?_
  refine lv_iload_n hx hb dX2_far_23 rfl (lv_at hl 2 rfl) ?_
  refine callVi (As := [.int (nI pq)]) (rest := [.int (nI (pp % nc)), .int (nI (rdN (pp / nc) (pq / nc) nr))]) (wc := (PW G ph pd nr nc pL pG pB pk pa pt pm)) (wr := ([] : va_W)) ⟨hx, hb, hml, hown, hts⟩ (m_X2_columnOf l G ph pd nr nc pL pG pB pk pa pt pm pq (by first | assumption | omega) (by first | assumption | omega)) (cwV 1 hts (lw_V q1081 q1083 qs15 q89 q1084) rfl rfl rfl (by decide +kernel) ⟨Nat.le_of_ble_eq_true rfl, Nat.le_of_ble_eq_true rfl⟩) hK hZ hA hP hD hS [0, 1, 2, 3, 4, 5] [] rfl rfl (by decide) (by decide) (by decide) 0 1 rfl rfl rfl hl.1 (Nat.le_of_ble_eq_true rfl) ⟨Nat.le_of_ble_eq_true rfl, Nat.le_of_ble_eq_true rfl⟩ rfl dX2_far_24 (fun r9 u9 H locs hw9 hP hD hS => ?_)
  subst hw9
  have hP : va_P G.1 CL (PW G ph pd nr nc pL pG pB pk pa pt pm) _ := hP
  have hD : va_D A (PW G ph pd nr nc pL pG pB pk pa pt pm) := hD
  refine lv_aload_n hx hb dX2_far_27 rfl (lv_at hl 0 rfl) ?_
  refine va_get (D := G.1) (ci := 1) (v := .int (nI nc)) (C := RX2) (T := TX2) (N := 14) hx hb hts in_X2 hown hK hP 0 rfl rfl 1 (by decide) (hts _ q143) (fun _ h9 => h9) rfl dX2_far_28 ?_
  refine callSi (As := [.int (nI (pp % nc)), .int (nI (pq % nc)), .int (nI nc)]) (rest := [.int (nI (rdN (pp / nc) (pq / nc) nr))]) (wc := ([] : va_W)) (wr := (PW G ph pd nr nc pL pG pB pk pa pt pm)) ⟨hx, hb, hml, hown, hts⟩ (m_X2_round l G (pp % nc) (pq % nc) nc (Nat.mod_lt _ (by omega)) (Nat.mod_lt _ (by omega)) (by first | assumption | omega)) (va_cwS 3 hts (lw_S q1459 q1460 q89 q1461) rfl rfl rfl (by decide +kernel) ⟨Nat.le_of_ble_eq_true rfl, Nat.le_of_ble_eq_true rfl⟩) hK hZ hA hP hD hS [] [0, 1, 2, 3, 4, 5] rfl rfl (by decide) (by decide) (by decide) rfl hl.1 (Nat.le_of_ble_eq_true rfl) ⟨Nat.le_of_ble_eq_true rfl, Nat.le_of_ble_eq_true rfl⟩ rfl dX2_far_31 (fun r9 u9 H locs hw9 hP hD hS => ?_)
  subst hw9
  have hP : va_P G.1 CL (PW G ph pd nr nc pL pG pB pk pa pt pm) _ := hP
  have hD : va_D A (PW G ph pd nr nc pL pG pB pk pa pt pm) := hD
  refine n_iadd hx hb dX2_far_34 ?_
  subst hQ
  exact ret_i hx hb hr hlk () rfl hP hD hS rfl dX2_far_35
set_option maxHeartbeats 4000000 in
set_option maxRecDepth 100000 in
theorem m_X2_vowelsOn (l : Launch) (G : GG) (ph : Nat) (pd : Nat → Nat) (nr : Nat) (nc : Nat) (pL : Nat → Nat) (pG : Nat → Nat) (pB : Nat → Bool) (pk : Nat → Int32) (pa : Nat → Nat) (pt : Nat → Nat) (pm : Nat) (ln : Nat) (hd : 2 ≤ nr ∧ nr ≤ 3 ∧ 2 ≤ nc ∧ nc ≤ 3) (hln : ln < nr + nc) (hL : ∀ i, pL i < 65536) : MM l G yX2_vowelsOn cX2_vowelsOn 4 (some .int) ⟨1, 0, 0, 22⟩ [.ref ph, .int (nI ln)] (PW G ph pd nr nc pL pG pB pk pa pt pm) (Qi_ G (fun (r : Int32) (_ : Unit) => r = nI (vwsN nr nc pL ln)) (fun (_ : Unit) => (PW G ph pd nr nc pL pG pB pk pa pt pm))) := by
  refine MM.of (by decide) (Nat.le_of_ble_eq_true rfl) ?_
  intro p e s m args below meth cd A C hini hA hK hZ hP hD ls hl
  generalize hQ : MQ below ((Qi_ G (fun (r : Int32) (_ : Unit) => r = nI (vwsN nr nc pL ln)) (fun (_ : Unit) => (PW G ph pd nr nc pL pG pB pk pa pt pm))) A) args s (⟨1, 0, 0, 22⟩ : Room).cells (⟨1, 0, 0, 22⟩ : Room).slots A = Q
  obtain ⟨hx, hb, hr, hts, hown, hlk, hml⟩ := C
  have hown : s.vm.findClass RX2 = some m.cls := hown
  have hS : va_S A s.heap s.heap [] := va_S.rf
  have hl : lv_has ls 4 [(0, .ref ph), (1, .int (nI ln))] := hl
  have hmu := dm_mul hd
  have hz := szOf_lt (line := ln) hd
  refine lv_iconst (v := nI 0) hx hb dX2_vowelsOn_0 (by decide) ?_
  refine lv_istore_n (lv' := [(2, .int (nI 0)), (0, .ref ph), (1, .int (nI ln))]) hx hb dX2_vowelsOn_1 rfl hl (by decide) rfl (fun ls hl => ?_)
  refine lv_iconst (v := nI 0) hx hb dX2_vowelsOn_2 (by decide) ?_
  refine lv_istore_n (lv' := [(3, .int (nI 0)), (2, .int (nI 0)), (0, .ref ph), (1, .int (nI ln))]) hx hb dX2_vowelsOn_3 rfl hl (by decide) rfl (fun ls hl => ?_)
  have lp4 : ∀ (f : Nat) (i : Nat) (n : Nat), szOf nr nc ln - i < f → (i ≤ szOf nr nc ln) → (n = cn (fun k => vw (pL (plOn nr nc ln k))) i) → ∀ (H : Heap) (locs : List Loc) (ls : Array Slot), va_P G.1 CL (PW G ph pd nr nc pL pG pB pk pa pt pm) H → va_D A (PW G ph pd nr nc pL pG pB pk pa pt pm) → va_S A s.heap H locs → lv_has ls 4 [(3, .int (nI i)), (2, .int (nI n)), (0, .ref ph), (1, .int (nI ln))] → W p l e (⟨1, 0, 0, 22⟩ : Room) s m args below meth cd H locs 0 0 Q (F0 m 4 ls []) := by
    intro f
    induction f with
    | zero => intro i n hf; exact absurd hf (Nat.not_lt_zero _)
    | succ f ih4 =>
      intro i n hf hi hn H locs ls hP hD hS hl
      refine lv_iload_n hx hb dX2_vowelsOn_4 rfl (lv_at hl 0 rfl) ?_
      refine lv_aload_n hx hb dX2_vowelsOn_5 rfl (lv_at hl 2 rfl) ?_
      refine lv_iload_n hx hb dX2_vowelsOn_6 rfl (lv_at hl 3 rfl) ?_
      refine callVi (As := [.int (nI ln)]) (rest := [.int (nI i)]) (wc := (PW G ph pd nr nc pL pG pB pk pa pt pm)) (wr := ([] : va_W)) ⟨hx, hb, hml, hown, hts⟩ (m_X2_sizeOf l G ph pd nr nc pL pG pB pk pa pt pm ln (by first | assumption | omega) (by first | assumption | omega)) (cwV 1 hts (lw_V q580 q581 q582 q89 q583) rfl rfl rfl (by decide +kernel) ⟨Nat.le_of_ble_eq_true rfl, Nat.le_of_ble_eq_true rfl⟩) hK hZ hA hP hD hS [0, 1, 2, 3, 4, 5] [] rfl rfl (by decide) (by decide) (by decide) 0 1 rfl rfl rfl hl.1 (Nat.le_of_ble_eq_true rfl) ⟨Nat.le_of_ble_eq_true rfl, Nat.le_of_ble_eq_true rfl⟩ rfl dX2_vowelsOn_7 (fun r9 u9 H locs hw9 hP hD hS => ?_)
      subst hw9
      have hP : va_P G.1 CL (PW G ph pd nr nc pL pG pB pk pa pt pm) _ := hP
      have hD : va_D A (PW G ph pd nr nc pL pG pB pk pa pt pm) := hD
      refine n_cmp_ge (tgt := 44) hx hb dX2_vowelsOn_10 (by decide) (by omega) (by omega) (fun c10 => ?_) (fun c10 => ?_)
      · skip
        refine lv_iload_n hx hb dX2_vowelsOn_44 rfl (lv_at hl 1 rfl) ?_
        subst hQ
        exact ret_i hx hb hr hlk () (by rw [hn, vwsN, show i = szOf nr nc ln by omega]) hP hD hS rfl dX2_vowelsOn_45
      · skip
        refine lv_iload_n hx hb dX2_vowelsOn_13 rfl (lv_at hl 1 rfl) ?_
        refine lv_aload_n hx hb dX2_vowelsOn_14 rfl (lv_at hl 2 rfl) ?_
        refine va_get (D := G.1) (ci := 1) (v := .ref (pd 0)) (C := RX2) (T := TX2) (N := 14) hx hb hts in_X2 hown hK hP 0 rfl rfl 2 (by decide) (hts _ q145) (fun _ h9 => h9) rfl dX2_vowelsOn_15 ?_
        refine lv_aload_n hx hb dX2_vowelsOn_18 rfl (lv_at hl 2 rfl) ?_
        refine lv_iload_n hx hb dX2_vowelsOn_19 rfl (lv_at hl 3 rfl) ?_
        refine lv_iload_n hx hb dX2_vowelsOn_20 rfl (lv_at hl 0 rfl) ?_
        refine callVi (As := [.int (nI ln), .int (nI i)]) (rest := [.ref (pd 0), .int (nI n)]) (wc := (PW G ph pd nr nc pL pG pB pk pa pt pm)) (wr := ([] : va_W)) ⟨hx, hb, hml, hown, hts⟩ (m_X2_placeOn l G ph pd nr nc pL pG pB pk pa pt pm ln i (by first | assumption | omega) (by first | assumption | omega)) (cwV 2 hts (lw_V q588 q589 q590 q89 q591) rfl rfl rfl (by decide +kernel) ⟨Nat.le_of_ble_eq_true rfl, Nat.le_of_ble_eq_true rfl⟩) hK hZ hA hP hD hS [0, 1, 2, 3, 4, 5] [] rfl rfl (by decide) (by decide) (by decide) 0 1 rfl rfl rfl hl.1 (Nat.le_of_ble_eq_true rfl) ⟨Nat.le_of_ble_eq_true rfl, Nat.le_of_ble_eq_true rfl⟩ rfl dX2_vowelsOn_21 (fun r9 u9 H locs hw9 hP hD hS => ?_)
        subst hw9
        have hP : va_P G.1 CL (PW G ph pd nr nc pL pG pB pk pa pt pm) _ := hP
        have hD : va_D A (PW G ph pd nr nc pL pG pB pk pa pt pm) := hD
        refine n_cald hx hb hK hP 1 2 rfl rfl (plOn_lt hd hln (by omega)).2 (by decide) dX2_vowelsOn_24 ?_
        refine callSNi (As := [.int (nI (pL (plOn nr nc ln i)))]) (rest := [.int (nI n)]) (wc := ([] : va_W)) (wr := (PW G ph pd nr nc pL pG pB pk pa pt pm)) ⟨hx, hb, hml, hown, hts⟩ (m_X1_isVowel l G (pL (plOn nr nc ln i)) (hL _)) (va_cnB 1 hts (lw_meth q594) rfl rfl rfl (KS.nw hZ q592 rfl) (hts _ q88) (by decide +kernel) ⟨Nat.le_of_ble_eq_true rfl, Nat.le_of_ble_eq_true rfl⟩) (hts _ q593) hK hZ hA hP hD hS [] [0, 1, 2, 3, 4, 5] rfl rfl (by decide) (by decide) (by decide) rfl hl.1 (Nat.le_of_ble_eq_true rfl) ⟨Nat.le_of_ble_eq_true rfl, Nat.le_of_ble_eq_true rfl⟩ rfl dX2_vowelsOn_25 (fun r9 u9 H locs hw9 hP hD hS => ?_)
        subst hw9
        have hP : va_P G.1 CL (PW G ph pd nr nc pL pG pB pk pa pt pm) _ := hP
        have hD : va_D A (PW G ph pd nr nc pL pG pB pk pa pt pm) := hD
        refine b_if_eq (tgt := 35) hx hb dX2_vowelsOn_28 (by decide) (fun c28 => ?_) (fun c28 => ?_)
        · skip
          refine lv_iconst (v := nI 0) hx hb dX2_vowelsOn_35 (by decide) ?_
          refine n_iadd hx hb dX2_vowelsOn_36 ?_
          refine lv_istore_n (lv' := [(2, .int (nI (n + 0))), (3, .int (nI i)), (0, .ref ph), (1, .int (nI ln))]) hx hb dX2_vowelsOn_37 rfl hl (by decide) rfl (fun ls hl => ?_)
          refine lv_iinc (v := nI (i + 1)) (lv' := [(3, .int (nI (i + 1))), (2, .int (nI (n + 0))), (0, .ref ph), (1, .int (nI ln))]) hx hb dX2_vowelsOn_38 hl (k := 1) rfl (nI_add _ _) (by decide) rfl (fun ls hl => ?_)
          refine lv_goto (tgt := 4) hx hb dX2_vowelsOn_41 (by decide) ?_
          exact ih4 (i + 1) (n + 0) (by omega) (by omega) (hn ▸ cn_f (P := fun k => vw (pL (plOn nr nc ln k))) c28) _ _ _ hP hD hS (lv_sub hl [0, 1, 2, 3] rfl)
        · skip
          refine lv_iconst (v := nI 1) hx hb dX2_vowelsOn_31 (by decide) ?_
          refine lv_goto (tgt := 36) hx hb dX2_vowelsOn_32 (by decide) ?_
          refine n_iadd hx hb dX2_vowelsOn_36 ?_
          refine lv_istore_n (lv' := [(2, .int (nI (n + 1))), (3, .int (nI i)), (0, .ref ph), (1, .int (nI ln))]) hx hb dX2_vowelsOn_37 rfl hl (by decide) rfl (fun ls hl => ?_)
          refine lv_iinc (v := nI (i + 1)) (lv' := [(3, .int (nI (i + 1))), (2, .int (nI (n + 1))), (0, .ref ph), (1, .int (nI ln))]) hx hb dX2_vowelsOn_38 hl (k := 1) rfl (nI_add _ _) (by decide) rfl (fun ls hl => ?_)
          refine lv_goto (tgt := 4) hx hb dX2_vowelsOn_41 (by decide) ?_
          exact ih4 (i + 1) (n + 1) (by omega) (by omega) (hn ▸ cn_t (P := fun k => vw (pL (plOn nr nc ln k))) c28) _ _ _ hP hD hS (lv_sub hl [0, 1, 2, 3] rfl)
  exact lp4 _ 0 0 (Nat.lt_succ_self _) (by omega) rfl _ _ _ hP hD hS (lv_sub hl [0, 1, 2, 3] rfl)
set_option maxHeartbeats 4000000 in
set_option maxRecDepth 100000 in
theorem m_X2_sings (l : Launch) (G : GG) (ph : Nat) (pd : Nat → Nat) (nr : Nat) (nc : Nat) (pL : Nat → Nat) (pG : Nat → Nat) (pB : Nat → Bool) (pk : Nat → Int32) (pa : Nat → Nat) (pt : Nat → Nat) (pm : Nat) (ln : Nat) (hd : 2 ≤ nr ∧ nr ≤ 3 ∧ 2 ≤ nc ∧ nc ≤ 3) (hln : ln < nr + nc) (hL : ∀ i, pL i < 65536) : MM l G yX2_sings cX2_sings 5 (some .boolean) ⟨2, 0, 0, 45⟩ [.ref ph, .int (nI ln)] (PW G ph pd nr nc pL pG pB pk pa pt pm) (Qi_ G (fun (r : Int32) (_ : Unit) => r = bI (snN nr nc pL ln)) (fun (_ : Unit) => (PW G ph pd nr nc pL pG pB pk pa pt pm))) := by
  refine MM.of (by decide) (Nat.le_of_ble_eq_true rfl) ?_
  intro p e s m args below meth cd A C hini hA hK hZ hP hD ls hl
  generalize hQ : MQ below ((Qi_ G (fun (r : Int32) (_ : Unit) => r = bI (snN nr nc pL ln)) (fun (_ : Unit) => (PW G ph pd nr nc pL pG pB pk pa pt pm))) A) args s (⟨2, 0, 0, 45⟩ : Room).cells (⟨2, 0, 0, 45⟩ : Room).slots A = Q
  obtain ⟨hx, hb, hr, hts, hown, hlk, hml⟩ := C
  have hown : s.vm.findClass RX2 = some m.cls := hown
  have hS : va_S A s.heap s.heap [] := va_S.rf
  have hl : lv_has ls 5 [(0, .ref ph), (1, .int (nI ln))] := hl
  have hmu := dm_mul hd
  have hz := szOf_lt (line := ln) hd
  refine lv_aload_n hx hb dX2_sings_0 rfl (lv_at hl 0 rfl) ?_
  refine lv_iload_n hx hb dX2_sings_1 rfl (lv_at hl 1 rfl) ?_
  refine callVi (As := [.int (nI ln)]) (rest := []) (wc := (PW G ph pd nr nc pL pG pB pk pa pt pm)) (wr := ([] : va_W)) ⟨hx, hb, hml, hown, hts⟩ (m_X2_sizeOf l G ph pd nr nc pL pG pB pk pa pt pm ln (by first | assumption | omega) (by first | assumption | omega)) (cwV 1 hts (lw_V q580 q581 q582 q89 q583) rfl rfl rfl (by decide +kernel) ⟨Nat.le_of_ble_eq_true rfl, Nat.le_of_ble_eq_true rfl⟩) hK hZ hA hP hD hS [0, 1, 2, 3, 4, 5] [] rfl rfl (by decide) (by decide) (by decide) 0 1 rfl rfl rfl hl.1 (Nat.le_of_ble_eq_true rfl) ⟨Nat.le_of_ble_eq_true rfl, Nat.le_of_ble_eq_true rfl⟩ rfl dX2_sings_2 (fun r9 u9 H locs hw9 hP hD hS => ?_)
  subst hw9
  have hP : va_P G.1 CL (PW G ph pd nr nc pL pG pB pk pa pt pm) _ := hP
  have hD : va_D A (PW G ph pd nr nc pL pG pB pk pa pt pm) := hD
  refine lv_istore_n (lv' := [(2, .int (nI (szOf nr nc ln))), (0, .ref ph), (1, .int (nI ln))]) hx hb dX2_sings_5 rfl hl (by decide) rfl (fun ls hl => ?_)
  refine lv_aload_n hx hb dX2_sings_6 rfl (lv_at hl 1 rfl) ?_
  refine lv_iload_n hx hb dX2_sings_7 rfl (lv_at hl 2 rfl) ?_
  refine callVi (As := [.int (nI ln)]) (rest := []) (wc := (PW G ph pd nr nc pL pG pB pk pa pt pm)) (wr := ([] : va_W)) ⟨hx, hb, hml, hown, hts⟩ (m_X2_vowelsOn l G ph pd nr nc pL pG pB pk pa pt pm ln (by first | assumption | omega) (by first | assumption | omega) (by first | assumption | omega)) (cwV 1 hts (lw_V q584 q585 q586 q89 q587) rfl rfl rfl (by decide +kernel) ⟨Nat.le_of_ble_eq_true rfl, Nat.le_of_ble_eq_true rfl⟩) hK hZ hA hP hD hS [0, 1, 2, 3, 4, 5] [] rfl rfl (by decide) (by decide) (by decide) 0 1 rfl rfl rfl hl.1 (Nat.le_of_ble_eq_true rfl) ⟨Nat.le_of_ble_eq_true rfl, Nat.le_of_ble_eq_true rfl⟩ rfl dX2_sings_8 (fun r9 u9 H locs hw9 hP hD hS => ?_)
  subst hw9
  have hP : va_P G.1 CL (PW G ph pd nr nc pL pG pB pk pa pt pm) _ := hP
  have hD : va_D A (PW G ph pd nr nc pL pG pB pk pa pt pm) := hD
  have hv := cn_le (fun k => vw (pL (plOn nr nc ln k))) (szOf nr nc ln)
  have hv : vwsN nr nc pL ln ≤ szOf nr nc ln := hv
  refine n_if_le (tgt := 18) hx hb dX2_sings_11 (by decide) (by omega) (fun c11 => ?_) (fun c11 => ?_)
  · skip
    refine lv_iconst (v := nI 0) hx hb dX2_sings_18 (by decide) ?_
    refine lv_istore_n (lv' := [(3, .int (nI 0)), (2, .int (nI (szOf nr nc ln))), (0, .ref ph), (1, .int (nI ln))]) hx hb dX2_sings_19 rfl hl (by decide) rfl (fun ls hl => ?_)
    refine lv_iconst (v := nI 0) hx hb dX2_sings_20 (by decide) ?_
    refine lv_istore (lv' := [(4, .int (nI 0)), (3, .int (nI 0)), (2, .int (nI (szOf nr nc ln))), (0, .ref ph), (1, .int (nI ln))]) hx hb dX2_sings_21 hl (by decide) rfl (fun ls hl => ?_)
    have lp23 : ∀ (f : Nat) (k : Nat) (bb : Bool), szOf nr nc ln - k < f → (k ≤ szOf nr nc ln) → (bb = (decide (0 < vwsN nr nc pL ln) && al (fun k => !vw (pL (plOn nr nc ln k)) || !vw (pL (plOn nr nc ln ((k + 1) % szOf nr nc ln)))) k)) → ∀ (H : Heap) (locs : List Loc) (ls : Array Slot), va_P G.1 CL (PW G ph pd nr nc pL pG pB pk pa pt pm) H → va_D A (PW G ph pd nr nc pL pG pB pk pa pt pm) → va_S A s.heap H locs → lv_has ls 5 [(4, .int (nI k)), (3, .int (bI bb)), (2, .int (nI (szOf nr nc ln))), (0, .ref ph), (1, .int (nI ln))] → W p l e (⟨2, 0, 0, 45⟩ : Room) s m args below meth cd H locs 0 0 Q (F0 m 23 ls []) := by
      intro f
      induction f with
      | zero => intro k bb hf; exact absurd hf (Nat.not_lt_zero _)
      | succ f ih23 =>
        intro k bb hf hk hb0 H locs ls hP hD hS hl
        refine lv_iload hx hb dX2_sings_23 (lv_at hl 0 rfl) ?_
        refine lv_iload_n hx hb dX2_sings_25 rfl (lv_at hl 2 rfl) ?_
        refine n_cmp_ge (tgt := 83) hx hb dX2_sings_26 (by decide) (by omega) (by omega) (fun c26 => ?_) (fun c26 => ?_)
        · skip
          refine lv_iload_n hx hb dX2_sings_83 rfl (lv_at hl 1 rfl) ?_
          subst hQ
          exact ret_i hx hb hr hlk () (by rw [hb0, snN, show k = szOf nr nc ln by omega]) hP hD hS (bI_nar _) dX2_sings_84
        · skip
          refine lv_iload_n hx hb dX2_sings_29 rfl (lv_at hl 1 rfl) ?_
          refine lv_aload_n hx hb dX2_sings_30 rfl (lv_at hl 3 rfl) ?_
          refine va_get (D := G.1) (ci := 1) (v := .ref (pd 0)) (C := RX2) (T := TX2) (N := 14) hx hb hts in_X2 hown hK hP 0 rfl rfl 2 (by decide) (hts _ q145) (fun _ h9 => h9) rfl dX2_sings_31 ?_
          refine lv_aload_n hx hb dX2_sings_34 rfl (lv_at hl 3 rfl) ?_
          refine lv_iload_n hx hb dX2_sings_35 rfl (lv_at hl 4 rfl) ?_
          refine lv_iload hx hb dX2_sings_36 (lv_at hl 0 rfl) ?_
          refine callVi (As := [.int (nI ln), .int (nI k)]) (rest := [.ref (pd 0), .int (bI bb)]) (wc := (PW G ph pd nr nc pL pG pB pk pa pt pm)) (wr := ([] : va_W)) ⟨hx, hb, hml, hown, hts⟩ (m_X2_placeOn l G ph pd nr nc pL pG pB pk pa pt pm ln k (by first | assumption | omega) (by first | assumption | omega)) (cwV 2 hts (lw_V q588 q589 q590 q89 q591) rfl rfl rfl (by decide +kernel) ⟨Nat.le_of_ble_eq_true rfl, Nat.le_of_ble_eq_true rfl⟩) hK hZ hA hP hD hS [0, 1, 2, 3, 4, 5] [] rfl rfl (by decide) (by decide) (by decide) 0 1 rfl rfl rfl hl.1 (Nat.le_of_ble_eq_true rfl) ⟨Nat.le_of_ble_eq_true rfl, Nat.le_of_ble_eq_true rfl⟩ rfl dX2_sings_38 (fun r9 u9 H locs hw9 hP hD hS => ?_)
          subst hw9
          have hP : va_P G.1 CL (PW G ph pd nr nc pL pG pB pk pa pt pm) _ := hP
          have hD : va_D A (PW G ph pd nr nc pL pG pB pk pa pt pm) := hD
          refine n_cald hx hb hK hP 1 2 rfl rfl (plOn_lt hd hln (by omega)).2 (by decide) dX2_sings_41 ?_
          refine callSNi (As := [.int (nI (pL (plOn nr nc ln k)))]) (rest := [.int (bI bb)]) (wc := ([] : va_W)) (wr := (PW G ph pd nr nc pL pG pB pk pa pt pm)) ⟨hx, hb, hml, hown, hts⟩ (m_X1_isVowel l G (pL (plOn nr nc ln k)) (hL _)) (va_cnB 1 hts (lw_meth q594) rfl rfl rfl (KS.nw hZ q592 rfl) (hts _ q88) (by decide +kernel) ⟨Nat.le_of_ble_eq_true rfl, Nat.le_of_ble_eq_true rfl⟩) (hts _ q593) hK hZ hA hP hD hS [] [0, 1, 2, 3, 4, 5] rfl rfl (by decide) (by decide) (by decide) rfl hl.1 (Nat.le_of_ble_eq_true rfl) ⟨Nat.le_of_ble_eq_true rfl, Nat.le_of_ble_eq_true rfl⟩ rfl dX2_sings_42 (fun r9 u9 H locs hw9 hP hD hS => ?_)
          subst hw9
          have hP : va_P G.1 CL (PW G ph pd nr nc pL pG pB pk pa pt pm) _ := hP
          have hD : va_D A (PW G ph pd nr nc pL pG pB pk pa pt pm) := hD
          refine b_if_eq (tgt := 70) hx hb dX2_sings_45 (by decide) (fun c45 => ?_) (fun c45 => ?_)
          · skip
            refine lv_iconst (v := nI 1) hx hb dX2_sings_70 (by decide) ?_
            refine lv_goto (tgt := 75) hx hb dX2_sings_71 (by decide) ?_
            refine b_iand (a := bb) (b := true) hx hb dX2_sings_75 ?_
            refine lv_istore_n (lv' := [(3, .int (bI (bb && true))), (4, .int (nI k)), (2, .int (nI (szOf nr nc ln))), (0, .ref ph), (1, .int (nI ln))]) hx hb dX2_sings_76 rfl hl (by decide) rfl (fun ls hl => ?_)
            refine lv_iinc (v := nI (k + 1)) (lv' := [(4, .int (nI (k + 1))), (3, .int (bI (bb && true))), (2, .int (nI (szOf nr nc ln))), (0, .ref ph), (1, .int (nI ln))]) hx hb dX2_sings_77 hl (k := 1) rfl (nI_add _ _) (by decide) rfl (fun ls hl => ?_)
            refine lv_goto (tgt := 23) hx hb dX2_sings_80 (by decide) ?_
            exact ih23 (k + 1) (bb && true) (by omega) (by omega) (by first | (simp [al, hb0, c45]; done) | (simp [al, hb0, c45, c67]; done)) _ _ _ hP hD hS (lv_sub hl [0, 1, 2, 3, 4] rfl)
          · skip
            refine lv_aload_n hx hb dX2_sings_48 rfl (lv_at hl 3 rfl) ?_
            refine va_get (D := G.1) (ci := 1) (v := .ref (pd 0)) (C := RX2) (T := TX2) (N := 14) hx hb hts in_X2 hown hK hP 0 rfl rfl 2 (by decide) (hts _ q145) (fun _ h9 => h9) rfl dX2_sings_49 ?_
            refine lv_aload_n hx hb dX2_sings_52 rfl (lv_at hl 3 rfl) ?_
            refine lv_iload_n hx hb dX2_sings_53 rfl (lv_at hl 4 rfl) ?_
            refine lv_iload hx hb dX2_sings_54 (lv_at hl 0 rfl) ?_
            refine lv_iconst (v := nI 1) hx hb dX2_sings_56 (by decide) ?_
            refine n_iadd hx hb dX2_sings_57 ?_
            refine lv_iload_n hx hb dX2_sings_58 rfl (lv_at hl 2 rfl) ?_
            refine n_irem hx hb (by omega) (by omega) (by omega) dX2_sings_59 ?_
            refine callVi (As := [.int (nI ln), .int (nI ((k + 1) % (szOf nr nc ln)))]) (rest := [.ref (pd 0), .int (bI bb)]) (wc := (PW G ph pd nr nc pL pG pB pk pa pt pm)) (wr := ([] : va_W)) ⟨hx, hb, hml, hown, hts⟩ (m_X2_placeOn l G ph pd nr nc pL pG pB pk pa pt pm ln ((k + 1) % (szOf nr nc ln)) (by first | assumption | omega) (by first | assumption | omega)) (cwV 2 hts (lw_V q588 q589 q590 q89 q591) rfl rfl rfl (by decide +kernel) ⟨Nat.le_of_ble_eq_true rfl, Nat.le_of_ble_eq_true rfl⟩) hK hZ hA hP hD hS [0, 1, 2, 3, 4, 5] [] rfl rfl (by decide) (by decide) (by decide) 0 1 rfl rfl rfl hl.1 (Nat.le_of_ble_eq_true rfl) ⟨Nat.le_of_ble_eq_true rfl, Nat.le_of_ble_eq_true rfl⟩ rfl dX2_sings_60 (fun r9 u9 H locs hw9 hP hD hS => ?_)
            subst hw9
            have hP : va_P G.1 CL (PW G ph pd nr nc pL pG pB pk pa pt pm) _ := hP
            have hD : va_D A (PW G ph pd nr nc pL pG pB pk pa pt pm) := hD
            refine n_cald hx hb hK hP 1 2 rfl rfl (plOn_lt hd hln (Nat.mod_lt _ (by omega))).2 (by decide) dX2_sings_63 ?_
            refine callSNi (As := [.int (nI (pL (plOn nr nc ln ((k + 1) % (szOf nr nc ln)))))]) (rest := [.int (bI bb)]) (wc := ([] : va_W)) (wr := (PW G ph pd nr nc pL pG pB pk pa pt pm)) ⟨hx, hb, hml, hown, hts⟩ (m_X1_isVowel l G (pL (plOn nr nc ln ((k + 1) % (szOf nr nc ln)))) (hL _)) (va_cnB 1 hts (lw_meth q594) rfl rfl rfl (KS.nw hZ q592 rfl) (hts _ q88) (by decide +kernel) ⟨Nat.le_of_ble_eq_true rfl, Nat.le_of_ble_eq_true rfl⟩) (hts _ q593) hK hZ hA hP hD hS [] [0, 1, 2, 3, 4, 5] rfl rfl (by decide) (by decide) (by decide) rfl hl.1 (Nat.le_of_ble_eq_true rfl) ⟨Nat.le_of_ble_eq_true rfl, Nat.le_of_ble_eq_true rfl⟩ rfl dX2_sings_64 (fun r9 u9 H locs hw9 hP hD hS => ?_)
            subst hw9
            have hP : va_P G.1 CL (PW G ph pd nr nc pL pG pB pk pa pt pm) _ := hP
            have hD : va_D A (PW G ph pd nr nc pL pG pB pk pa pt pm) := hD
            refine b_if_ne (tgt := 74) hx hb dX2_sings_67 (by decide) (fun c67 => ?_) (fun c67 => ?_)
            · skip
              refine lv_iconst (v := nI 0) hx hb dX2_sings_74 (by decide) ?_
              refine b_iand (a := bb) (b := false) hx hb dX2_sings_75 ?_
              refine lv_istore_n (lv' := [(3, .int (bI (bb && false))), (4, .int (nI k)), (2, .int (nI (szOf nr nc ln))), (0, .ref ph), (1, .int (nI ln))]) hx hb dX2_sings_76 rfl hl (by decide) rfl (fun ls hl => ?_)
              refine lv_iinc (v := nI (k + 1)) (lv' := [(4, .int (nI (k + 1))), (3, .int (bI (bb && false))), (2, .int (nI (szOf nr nc ln))), (0, .ref ph), (1, .int (nI ln))]) hx hb dX2_sings_77 hl (k := 1) rfl (nI_add _ _) (by decide) rfl (fun ls hl => ?_)
              refine lv_goto (tgt := 23) hx hb dX2_sings_80 (by decide) ?_
              exact ih23 (k + 1) (bb && false) (by omega) (by omega) (by first | (simp [al, hb0, c45]; done) | (simp [al, hb0, c45, c67]; done)) _ _ _ hP hD hS (lv_sub hl [0, 1, 2, 3, 4] rfl)
            · skip
              refine lv_iconst (v := nI 1) hx hb dX2_sings_70 (by decide) ?_
              refine lv_goto (tgt := 75) hx hb dX2_sings_71 (by decide) ?_
              refine b_iand (a := bb) (b := true) hx hb dX2_sings_75 ?_
              refine lv_istore_n (lv' := [(3, .int (bI (bb && true))), (4, .int (nI k)), (2, .int (nI (szOf nr nc ln))), (0, .ref ph), (1, .int (nI ln))]) hx hb dX2_sings_76 rfl hl (by decide) rfl (fun ls hl => ?_)
              refine lv_iinc (v := nI (k + 1)) (lv' := [(4, .int (nI (k + 1))), (3, .int (bI (bb && true))), (2, .int (nI (szOf nr nc ln))), (0, .ref ph), (1, .int (nI ln))]) hx hb dX2_sings_77 hl (k := 1) rfl (nI_add _ _) (by decide) rfl (fun ls hl => ?_)
              refine lv_goto (tgt := 23) hx hb dX2_sings_80 (by decide) ?_
              exact ih23 (k + 1) (bb && true) (by omega) (by omega) (by first | (simp [al, hb0, c45]; done) | (simp [al, hb0, c45, c67]; done)) _ _ _ hP hD hS (lv_sub hl [0, 1, 2, 3, 4] rfl)
    exact lp23 _ 0 false (Nat.lt_succ_self _) (by omega) (by simp [al, c11]) _ _ _ hP hD hS (lv_sub hl [0, 1, 2, 3, 4] rfl)
  · skip
    refine lv_iconst (v := nI 1) hx hb dX2_sings_14 (by decide) ?_
    refine lv_goto (tgt := 19) hx hb dX2_sings_15 (by decide) ?_
    refine lv_istore_n (lv' := [(3, .int (nI 1)), (2, .int (nI (szOf nr nc ln))), (0, .ref ph), (1, .int (nI ln))]) hx hb dX2_sings_19 rfl hl (by decide) rfl (fun ls hl => ?_)
    refine lv_iconst (v := nI 0) hx hb dX2_sings_20 (by decide) ?_
    refine lv_istore (lv' := [(4, .int (nI 0)), (3, .int (nI 1)), (2, .int (nI (szOf nr nc ln))), (0, .ref ph), (1, .int (nI ln))]) hx hb dX2_sings_21 hl (by decide) rfl (fun ls hl => ?_)
    have lp23 : ∀ (f : Nat) (k : Nat) (bb : Bool), szOf nr nc ln - k < f → (k ≤ szOf nr nc ln) → (bb = (decide (0 < vwsN nr nc pL ln) && al (fun k => !vw (pL (plOn nr nc ln k)) || !vw (pL (plOn nr nc ln ((k + 1) % szOf nr nc ln)))) k)) → ∀ (H : Heap) (locs : List Loc) (ls : Array Slot), va_P G.1 CL (PW G ph pd nr nc pL pG pB pk pa pt pm) H → va_D A (PW G ph pd nr nc pL pG pB pk pa pt pm) → va_S A s.heap H locs → lv_has ls 5 [(4, .int (nI k)), (3, .int (bI bb)), (2, .int (nI (szOf nr nc ln))), (0, .ref ph), (1, .int (nI ln))] → W p l e (⟨2, 0, 0, 45⟩ : Room) s m args below meth cd H locs 0 0 Q (F0 m 23 ls []) := by
      intro f
      induction f with
      | zero => intro k bb hf; exact absurd hf (Nat.not_lt_zero _)
      | succ f ih23 =>
        intro k bb hf hk hb0 H locs ls hP hD hS hl
        refine lv_iload hx hb dX2_sings_23 (lv_at hl 0 rfl) ?_
        refine lv_iload_n hx hb dX2_sings_25 rfl (lv_at hl 2 rfl) ?_
        refine n_cmp_ge (tgt := 83) hx hb dX2_sings_26 (by decide) (by omega) (by omega) (fun c26 => ?_) (fun c26 => ?_)
        · skip
          refine lv_iload_n hx hb dX2_sings_83 rfl (lv_at hl 1 rfl) ?_
          subst hQ
          exact ret_i hx hb hr hlk () (by rw [hb0, snN, show k = szOf nr nc ln by omega]) hP hD hS (bI_nar _) dX2_sings_84
        · skip
          refine lv_iload_n hx hb dX2_sings_29 rfl (lv_at hl 1 rfl) ?_
          refine lv_aload_n hx hb dX2_sings_30 rfl (lv_at hl 3 rfl) ?_
          refine va_get (D := G.1) (ci := 1) (v := .ref (pd 0)) (C := RX2) (T := TX2) (N := 14) hx hb hts in_X2 hown hK hP 0 rfl rfl 2 (by decide) (hts _ q145) (fun _ h9 => h9) rfl dX2_sings_31 ?_
          refine lv_aload_n hx hb dX2_sings_34 rfl (lv_at hl 3 rfl) ?_
          refine lv_iload_n hx hb dX2_sings_35 rfl (lv_at hl 4 rfl) ?_
          refine lv_iload hx hb dX2_sings_36 (lv_at hl 0 rfl) ?_
          refine callVi (As := [.int (nI ln), .int (nI k)]) (rest := [.ref (pd 0), .int (bI bb)]) (wc := (PW G ph pd nr nc pL pG pB pk pa pt pm)) (wr := ([] : va_W)) ⟨hx, hb, hml, hown, hts⟩ (m_X2_placeOn l G ph pd nr nc pL pG pB pk pa pt pm ln k (by first | assumption | omega) (by first | assumption | omega)) (cwV 2 hts (lw_V q588 q589 q590 q89 q591) rfl rfl rfl (by decide +kernel) ⟨Nat.le_of_ble_eq_true rfl, Nat.le_of_ble_eq_true rfl⟩) hK hZ hA hP hD hS [0, 1, 2, 3, 4, 5] [] rfl rfl (by decide) (by decide) (by decide) 0 1 rfl rfl rfl hl.1 (Nat.le_of_ble_eq_true rfl) ⟨Nat.le_of_ble_eq_true rfl, Nat.le_of_ble_eq_true rfl⟩ rfl dX2_sings_38 (fun r9 u9 H locs hw9 hP hD hS => ?_)
          subst hw9
          have hP : va_P G.1 CL (PW G ph pd nr nc pL pG pB pk pa pt pm) _ := hP
          have hD : va_D A (PW G ph pd nr nc pL pG pB pk pa pt pm) := hD
          refine n_cald hx hb hK hP 1 2 rfl rfl (plOn_lt hd hln (by omega)).2 (by decide) dX2_sings_41 ?_
          refine callSNi (As := [.int (nI (pL (plOn nr nc ln k)))]) (rest := [.int (bI bb)]) (wc := ([] : va_W)) (wr := (PW G ph pd nr nc pL pG pB pk pa pt pm)) ⟨hx, hb, hml, hown, hts⟩ (m_X1_isVowel l G (pL (plOn nr nc ln k)) (hL _)) (va_cnB 1 hts (lw_meth q594) rfl rfl rfl (KS.nw hZ q592 rfl) (hts _ q88) (by decide +kernel) ⟨Nat.le_of_ble_eq_true rfl, Nat.le_of_ble_eq_true rfl⟩) (hts _ q593) hK hZ hA hP hD hS [] [0, 1, 2, 3, 4, 5] rfl rfl (by decide) (by decide) (by decide) rfl hl.1 (Nat.le_of_ble_eq_true rfl) ⟨Nat.le_of_ble_eq_true rfl, Nat.le_of_ble_eq_true rfl⟩ rfl dX2_sings_42 (fun r9 u9 H locs hw9 hP hD hS => ?_)
          subst hw9
          have hP : va_P G.1 CL (PW G ph pd nr nc pL pG pB pk pa pt pm) _ := hP
          have hD : va_D A (PW G ph pd nr nc pL pG pB pk pa pt pm) := hD
          refine b_if_eq (tgt := 70) hx hb dX2_sings_45 (by decide) (fun c45 => ?_) (fun c45 => ?_)
          · skip
            refine lv_iconst (v := nI 1) hx hb dX2_sings_70 (by decide) ?_
            refine lv_goto (tgt := 75) hx hb dX2_sings_71 (by decide) ?_
            refine b_iand (a := bb) (b := true) hx hb dX2_sings_75 ?_
            refine lv_istore_n (lv' := [(3, .int (bI (bb && true))), (4, .int (nI k)), (2, .int (nI (szOf nr nc ln))), (0, .ref ph), (1, .int (nI ln))]) hx hb dX2_sings_76 rfl hl (by decide) rfl (fun ls hl => ?_)
            refine lv_iinc (v := nI (k + 1)) (lv' := [(4, .int (nI (k + 1))), (3, .int (bI (bb && true))), (2, .int (nI (szOf nr nc ln))), (0, .ref ph), (1, .int (nI ln))]) hx hb dX2_sings_77 hl (k := 1) rfl (nI_add _ _) (by decide) rfl (fun ls hl => ?_)
            refine lv_goto (tgt := 23) hx hb dX2_sings_80 (by decide) ?_
            exact ih23 (k + 1) (bb && true) (by omega) (by omega) (by first | (simp [al, hb0, c45]; done) | (simp [al, hb0, c45, c67]; done)) _ _ _ hP hD hS (lv_sub hl [0, 1, 2, 3, 4] rfl)
          · skip
            refine lv_aload_n hx hb dX2_sings_48 rfl (lv_at hl 3 rfl) ?_
            refine va_get (D := G.1) (ci := 1) (v := .ref (pd 0)) (C := RX2) (T := TX2) (N := 14) hx hb hts in_X2 hown hK hP 0 rfl rfl 2 (by decide) (hts _ q145) (fun _ h9 => h9) rfl dX2_sings_49 ?_
            refine lv_aload_n hx hb dX2_sings_52 rfl (lv_at hl 3 rfl) ?_
            refine lv_iload_n hx hb dX2_sings_53 rfl (lv_at hl 4 rfl) ?_
            refine lv_iload hx hb dX2_sings_54 (lv_at hl 0 rfl) ?_
            refine lv_iconst (v := nI 1) hx hb dX2_sings_56 (by decide) ?_
            refine n_iadd hx hb dX2_sings_57 ?_
            refine lv_iload_n hx hb dX2_sings_58 rfl (lv_at hl 2 rfl) ?_
            refine n_irem hx hb (by omega) (by omega) (by omega) dX2_sings_59 ?_
            refine callVi (As := [.int (nI ln), .int (nI ((k + 1) % (szOf nr nc ln)))]) (rest := [.ref (pd 0), .int (bI bb)]) (wc := (PW G ph pd nr nc pL pG pB pk pa pt pm)) (wr := ([] : va_W)) ⟨hx, hb, hml, hown, hts⟩ (m_X2_placeOn l G ph pd nr nc pL pG pB pk pa pt pm ln ((k + 1) % (szOf nr nc ln)) (by first | assumption | omega) (by first | assumption | omega)) (cwV 2 hts (lw_V q588 q589 q590 q89 q591) rfl rfl rfl (by decide +kernel) ⟨Nat.le_of_ble_eq_true rfl, Nat.le_of_ble_eq_true rfl⟩) hK hZ hA hP hD hS [0, 1, 2, 3, 4, 5] [] rfl rfl (by decide) (by decide) (by decide) 0 1 rfl rfl rfl hl.1 (Nat.le_of_ble_eq_true rfl) ⟨Nat.le_of_ble_eq_true rfl, Nat.le_of_ble_eq_true rfl⟩ rfl dX2_sings_60 (fun r9 u9 H locs hw9 hP hD hS => ?_)
            subst hw9
            have hP : va_P G.1 CL (PW G ph pd nr nc pL pG pB pk pa pt pm) _ := hP
            have hD : va_D A (PW G ph pd nr nc pL pG pB pk pa pt pm) := hD
            refine n_cald hx hb hK hP 1 2 rfl rfl (plOn_lt hd hln (Nat.mod_lt _ (by omega))).2 (by decide) dX2_sings_63 ?_
            refine callSNi (As := [.int (nI (pL (plOn nr nc ln ((k + 1) % (szOf nr nc ln)))))]) (rest := [.int (bI bb)]) (wc := ([] : va_W)) (wr := (PW G ph pd nr nc pL pG pB pk pa pt pm)) ⟨hx, hb, hml, hown, hts⟩ (m_X1_isVowel l G (pL (plOn nr nc ln ((k + 1) % (szOf nr nc ln)))) (hL _)) (va_cnB 1 hts (lw_meth q594) rfl rfl rfl (KS.nw hZ q592 rfl) (hts _ q88) (by decide +kernel) ⟨Nat.le_of_ble_eq_true rfl, Nat.le_of_ble_eq_true rfl⟩) (hts _ q593) hK hZ hA hP hD hS [] [0, 1, 2, 3, 4, 5] rfl rfl (by decide) (by decide) (by decide) rfl hl.1 (Nat.le_of_ble_eq_true rfl) ⟨Nat.le_of_ble_eq_true rfl, Nat.le_of_ble_eq_true rfl⟩ rfl dX2_sings_64 (fun r9 u9 H locs hw9 hP hD hS => ?_)
            subst hw9
            have hP : va_P G.1 CL (PW G ph pd nr nc pL pG pB pk pa pt pm) _ := hP
            have hD : va_D A (PW G ph pd nr nc pL pG pB pk pa pt pm) := hD
            refine b_if_ne (tgt := 74) hx hb dX2_sings_67 (by decide) (fun c67 => ?_) (fun c67 => ?_)
            · skip
              refine lv_iconst (v := nI 0) hx hb dX2_sings_74 (by decide) ?_
              refine b_iand (a := bb) (b := false) hx hb dX2_sings_75 ?_
              refine lv_istore_n (lv' := [(3, .int (bI (bb && false))), (4, .int (nI k)), (2, .int (nI (szOf nr nc ln))), (0, .ref ph), (1, .int (nI ln))]) hx hb dX2_sings_76 rfl hl (by decide) rfl (fun ls hl => ?_)
              refine lv_iinc (v := nI (k + 1)) (lv' := [(4, .int (nI (k + 1))), (3, .int (bI (bb && false))), (2, .int (nI (szOf nr nc ln))), (0, .ref ph), (1, .int (nI ln))]) hx hb dX2_sings_77 hl (k := 1) rfl (nI_add _ _) (by decide) rfl (fun ls hl => ?_)
              refine lv_goto (tgt := 23) hx hb dX2_sings_80 (by decide) ?_
              exact ih23 (k + 1) (bb && false) (by omega) (by omega) (by first | (simp [al, hb0, c45]; done) | (simp [al, hb0, c45, c67]; done)) _ _ _ hP hD hS (lv_sub hl [0, 1, 2, 3, 4] rfl)
            · skip
              refine lv_iconst (v := nI 1) hx hb dX2_sings_70 (by decide) ?_
              refine lv_goto (tgt := 75) hx hb dX2_sings_71 (by decide) ?_
              refine b_iand (a := bb) (b := true) hx hb dX2_sings_75 ?_
              refine lv_istore_n (lv' := [(3, .int (bI (bb && true))), (4, .int (nI k)), (2, .int (nI (szOf nr nc ln))), (0, .ref ph), (1, .int (nI ln))]) hx hb dX2_sings_76 rfl hl (by decide) rfl (fun ls hl => ?_)
              refine lv_iinc (v := nI (k + 1)) (lv' := [(4, .int (nI (k + 1))), (3, .int (bI (bb && true))), (2, .int (nI (szOf nr nc ln))), (0, .ref ph), (1, .int (nI ln))]) hx hb dX2_sings_77 hl (k := 1) rfl (nI_add _ _) (by decide) rfl (fun ls hl => ?_)
              refine lv_goto (tgt := 23) hx hb dX2_sings_80 (by decide) ?_
              exact ih23 (k + 1) (bb && true) (by omega) (by omega) (by first | (simp [al, hb0, c45]; done) | (simp [al, hb0, c45, c67]; done)) _ _ _ hP hD hS (lv_sub hl [0, 1, 2, 3, 4] rfl)
    exact lp23 _ 0 true (Nat.lt_succ_self _) (by omega) (by simp [al, c11]) _ _ _ hP hD hS (lv_sub hl [0, 1, 2, 3, 4] rfl)
set_option maxHeartbeats 4000000 in
set_option maxRecDepth 100000 in
theorem m_X2_vowels (l : Launch) (G : GG) (ph : Nat) (pd : Nat → Nat) (nr : Nat) (nc : Nat) (pL : Nat → Nat) (pG : Nat → Nat) (pB : Nat → Bool) (pk : Nat → Int32) (pa : Nat → Nat) (pt : Nat → Nat) (pm : Nat) (hd : 2 ≤ nr ∧ nr ≤ 3 ∧ 2 ≤ nc ∧ nc ≤ 3) (hL : ∀ i, pL i < 65536) : MM l G yX2_vowels cX2_vowels 3 (some .int) ⟨2, 0, 0, 45⟩ [.ref ph] (PW G ph pd nr nc pL pG pB pk pa pt pm) (Qi_ G (fun (r : Int32) (_ : Unit) => r = nI (sm (vwsN nr nc pL) nr)) (fun (_ : Unit) => (PW G ph pd nr nc pL pG pB pk pa pt pm))) := by
  refine MM.of (by decide) (Nat.le_of_ble_eq_true rfl) ?_
  intro p e s m args below meth cd A C hini hA hK hZ hP hD ls hl
  generalize hQ : MQ below ((Qi_ G (fun (r : Int32) (_ : Unit) => r = nI (sm (vwsN nr nc pL) nr)) (fun (_ : Unit) => (PW G ph pd nr nc pL pG pB pk pa pt pm))) A) args s (⟨2, 0, 0, 45⟩ : Room).cells (⟨2, 0, 0, 45⟩ : Room).slots A = Q
  obtain ⟨hx, hb, hr, hts, hown, hlk, hml⟩ := C
  have hown : s.vm.findClass RX2 = some m.cls := hown
  have hS : va_S A s.heap s.heap [] := va_S.rf
  have hl : lv_has ls 3 [(0, .ref ph)] := hl
  have hmu := dm_mul hd
  refine lv_iconst (v := nI 0) hx hb dX2_vowels_0 (by decide) ?_
  refine lv_istore_n (lv' := [(1, .int (nI 0)), (0, .ref ph)]) hx hb dX2_vowels_1 rfl hl (by decide) rfl (fun ls hl => ?_)
  refine lv_iconst (v := nI 0) hx hb dX2_vowels_2 (by decide) ?_
  refine lv_istore_n (lv' := [(2, .int (nI 0)), (1, .int (nI 0)), (0, .ref ph)]) hx hb dX2_vowels_3 rfl hl (by decide) rfl (fun ls hl => ?_)
  have lp4 : ∀ (f : Nat) (i : Nat) (n : Nat), nr - i < f → (i ≤ nr) → (n = sm (vwsN nr nc pL) i) → ∀ (H : Heap) (locs : List Loc) (ls : Array Slot), va_P G.1 CL (PW G ph pd nr nc pL pG pB pk pa pt pm) H → va_D A (PW G ph pd nr nc pL pG pB pk pa pt pm) → va_S A s.heap H locs → lv_has ls 3 [(2, .int (nI i)), (1, .int (nI n)), (0, .ref ph)] → W p l e (⟨2, 0, 0, 45⟩ : Room) s m args below meth cd H locs 0 0 Q (F0 m 4 ls []) := by
    intro f
    induction f with
    | zero => intro i n hf; exact absurd hf (Nat.not_lt_zero _)
    | succ f ih4 =>
      intro i n hf hi hn H locs ls hP hD hS hl
      refine lv_iload_n hx hb dX2_vowels_4 rfl (lv_at hl 0 rfl) ?_
      refine lv_aload_n hx hb dX2_vowels_5 rfl (lv_at hl 2 rfl) ?_
      refine va_get (D := G.1) (ci := 1) (v := .int (nI nr)) (C := RX2) (T := TX2) (N := 14) hx hb hts in_X2 hown hK hP 0 rfl rfl 0 (by decide) (hts _ q141) (fun _ h9 => h9) rfl dX2_vowels_6 ?_
      refine n_cmp_ge (tgt := 26) hx hb dX2_vowels_9 (by decide) (by omega) (by omega) (fun c9 => ?_) (fun c9 => ?_)
      · skip
        refine lv_iload_n hx hb dX2_vowels_26 rfl (lv_at hl 1 rfl) ?_
        subst hQ
        exact ret_i hx hb hr hlk () (by rw [hn, show i = nr by omega]) hP hD hS rfl dX2_vowels_27
      · skip
        refine lv_iload_n hx hb dX2_vowels_12 rfl (lv_at hl 1 rfl) ?_
        refine lv_aload_n hx hb dX2_vowels_13 rfl (lv_at hl 2 rfl) ?_
        refine lv_iload_n hx hb dX2_vowels_14 rfl (lv_at hl 0 rfl) ?_
        refine callVi (As := [.int (nI i)]) (rest := [.int (nI n)]) (wc := (PW G ph pd nr nc pL pG pB pk pa pt pm)) (wr := ([] : va_W)) ⟨hx, hb, hml, hown, hts⟩ (m_X2_vowelsOn l G ph pd nr nc pL pG pB pk pa pt pm i (by first | assumption | omega) (by first | assumption | omega) (by first | assumption | omega)) (cwV 1 hts (lw_V q584 q585 q586 q89 q587) rfl rfl rfl (by decide +kernel) ⟨Nat.le_of_ble_eq_true rfl, Nat.le_of_ble_eq_true rfl⟩) hK hZ hA hP hD hS [0, 1, 2, 3, 4, 5] [] rfl rfl (by decide) (by decide) (by decide) 0 1 rfl rfl rfl hl.1 (Nat.le_of_ble_eq_true rfl) ⟨Nat.le_of_ble_eq_true rfl, Nat.le_of_ble_eq_true rfl⟩ rfl dX2_vowels_15 (fun r9 u9 H locs hw9 hP hD hS => ?_)
        subst hw9
        have hP : va_P G.1 CL (PW G ph pd nr nc pL pG pB pk pa pt pm) _ := hP
        have hD : va_D A (PW G ph pd nr nc pL pG pB pk pa pt pm) := hD
        refine n_iadd hx hb dX2_vowels_18 ?_
        refine lv_istore_n (lv' := [(1, .int (nI (n + (vwsN nr nc pL i)))), (2, .int (nI i)), (0, .ref ph)]) hx hb dX2_vowels_19 rfl hl (by decide) rfl (fun ls hl => ?_)
        refine lv_iinc (v := nI (i + 1)) (lv' := [(2, .int (nI (i + 1))), (1, .int (nI (n + (vwsN nr nc pL i)))), (0, .ref ph)]) hx hb dX2_vowels_20 hl (k := 1) rfl (nI_add _ _) (by decide) rfl (fun ls hl => ?_)
        refine lv_goto (tgt := 4) hx hb dX2_vowels_23 (by decide) ?_
        exact ih4 (i + 1) (n + (vwsN nr nc pL i)) (by omega) (by omega) (by rw [hn]; rfl) _ _ _ hP hD hS (lv_sub hl [0, 1, 2] rfl)
  exact lp4 _ 0 0 (Nat.lt_succ_self _) (by omega) rfl _ _ _ hP hD hS (lv_sub hl [0, 1, 2] rfl)
set_option maxHeartbeats 4000000 in
set_option maxRecDepth 100000 in
theorem m_X2_isFarKnown (l : Launch) (G : GG) (ph : Nat) (pd : Nat → Nat) (nr : Nat) (nc : Nat) (pL : Nat → Nat) (pG : Nat → Nat) (pB : Nat → Bool) (pk : Nat → Int32) (pa : Nat → Nat) (pt : Nat → Nat) (pm : Nat) (pp : Nat) (hd : 2 ≤ nr ∧ nr ≤ 3 ∧ 2 ≤ nc ∧ nc ≤ 3) (hp0 : pp < nr * nc) (hL : ∀ i, pL i < 65536) (hG : ∀ i, pG i < 65536) : MM l G yX2_isFarKnown cX2_isFarKnown 2 (some .boolean) ⟨1, 0, 0, 24⟩ [.ref ph, .int (nI pp)] (PW G ph pd nr nc pL pG pB pk pa pt pm) (Qi_ G (fun (r : Int32) (_ : Unit) => r = bI (fkN (nr * nc) pL pG pp)) (fun (_ : Unit) => (PW G ph pd nr nc pL pG pB pk pa pt pm))) := by
  refine MM.of (by decide) (Nat.le_of_ble_eq_true rfl) ?_
  intro p e s m args below meth cd A C hini hA hK hZ hP hD ls hl
  generalize hQ : MQ below ((Qi_ G (fun (r : Int32) (_ : Unit) => r = bI (fkN (nr * nc) pL pG pp)) (fun (_ : Unit) => (PW G ph pd nr nc pL pG pB pk pa pt pm))) A) args s (⟨1, 0, 0, 24⟩ : Room).cells (⟨1, 0, 0, 24⟩ : Room).slots A = Q
  obtain ⟨hx, hb, hr, hts, hown, hlk, hml⟩ := C
  have hown : s.vm.findClass RX2 = some m.cls := hown
  have hS : va_S A s.heap s.heap [] := va_S.rf
  have hl : lv_has ls 2 [(0, .ref ph), (1, .int (nI pp))] := hl
  have hmu := dm_mul hd
  refine lv_aload_n hx hb dX2_isFarKnown_0 rfl (lv_at hl 0 rfl) ?_
  refine va_get (D := G.1) (ci := 1) (v := .ref (pd 1)) (C := RX2) (T := TX2) (N := 14) hx hb hts in_X2 hown hK hP 0 rfl rfl 3 (by decide) (hts _ q147) (fun _ h9 => h9) rfl dX2_isFarKnown_1 ?_
  refine lv_iload_n hx hb dX2_isFarKnown_4 rfl (lv_at hl 1 rfl) ?_
  refine n_cald hx hb hK hP 2 2 rfl rfl (by omega) (by decide) dX2_isFarKnown_5 ?_
  refine lv_bipush (v := nI 46) hx hb dX2_isFarKnown_6 (by decide) ?_
  refine n_cmp_eq (tgt := 36) hx hb dX2_isFarKnown_8 (by decide) (by have := hG pp; omega) (by omega) (fun c8 => ?_) (fun c8 => ?_)
  · skip
    refine lv_iconst (v := nI 0) hx hb dX2_isFarKnown_36 (by decide) ?_
    subst hQ
    exact ret_i hx hb hr hlk () (bI_0 (by first | (simp [fkN, c8]; done) | (simp [fkN, c29]; done))) hP hD hS rfl dX2_isFarKnown_37
  · skip
    refine lv_aload_n hx hb dX2_isFarKnown_11 rfl (lv_at hl 0 rfl) ?_
    refine va_get (D := G.1) (ci := 1) (v := .ref (pd 0)) (C := RX2) (T := TX2) (N := 14) hx hb hts in_X2 hown hK hP 0 rfl rfl 2 (by decide) (hts _ q145) (fun _ h9 => h9) rfl dX2_isFarKnown_12 ?_
    refine lv_aload_n hx hb dX2_isFarKnown_15 rfl (lv_at hl 0 rfl) ?_
    refine callVi (As := []) (rest := [.ref (pd 0)]) (wc := (PW G ph pd nr nc pL pG pB pk pa pt pm)) (wr := ([] : va_W)) ⟨hx, hb, hml, hown, hts⟩ (m_X2_places l G ph pd nr nc pL pG pB pk pa pt pm ) (cwV 0 hts (lw_V q474 q475 q476 q89 q477) rfl rfl rfl (by decide +kernel) ⟨Nat.le_of_ble_eq_true rfl, Nat.le_of_ble_eq_true rfl⟩) hK hZ hA hP hD hS [0, 1, 2, 3, 4, 5] [] rfl rfl (by decide) (by decide) (by decide) 0 1 rfl rfl rfl hl.1 (Nat.le_of_ble_eq_true rfl) ⟨Nat.le_of_ble_eq_true rfl, Nat.le_of_ble_eq_true rfl⟩ rfl dX2_isFarKnown_16 (fun r9 u9 H locs hw9 hP hD hS => ?_)
    subst hw9
    have hP : va_P G.1 CL (PW G ph pd nr nc pL pG pB pk pa pt pm) _ := hP
    have hD : va_D A (PW G ph pd nr nc pL pG pB pk pa pt pm) := hD
    refine lv_aload_n hx hb dX2_isFarKnown_19 rfl (lv_at hl 0 rfl) ?_
    refine va_get (D := G.1) (ci := 1) (v := .ref (pd 1)) (C := RX2) (T := TX2) (N := 14) hx hb hts in_X2 hown hK hP 0 rfl rfl 3 (by decide) (hts _ q147) (fun _ h9 => h9) rfl dX2_isFarKnown_20 ?_
    refine lv_iload_n hx hb dX2_isFarKnown_23 rfl (lv_at hl 1 rfl) ?_
    refine n_cald hx hb hK hP 2 2 rfl rfl (by omega) (by decide) dX2_isFarKnown_24 ?_
    refine callSi (As := [.ref (pd 0), .int (nI (nr * nc)), .int (nI (pG pp))]) (rest := []) (wc := (PW G ph pd nr nc pL pG pB pk pa pt pm)) (wr := ([] : va_W)) ⟨hx, hb, hml, hown, hts⟩ (m_X2_count__L l G ph pd nr nc pL pG pB pk pa pt pm (nr * nc) (pG pp) (by first | assumption | omega) (hG _) (by first | assumption | omega)) (va_cwS 3 hts (lw_S q478 q479 q89 q480) rfl rfl rfl (by decide +kernel) ⟨Nat.le_of_ble_eq_true rfl, Nat.le_of_ble_eq_true rfl⟩) hK hZ hA hP hD hS [0, 1, 2, 3, 4, 5] [] rfl rfl (by decide) (by decide) (by decide) rfl hl.1 (Nat.le_of_ble_eq_true rfl) ⟨Nat.le_of_ble_eq_true rfl, Nat.le_of_ble_eq_true rfl⟩ rfl dX2_isFarKnown_25 (fun r9 u9 H locs hw9 hP hD hS => ?_)
    subst hw9
    have hP : va_P G.1 CL (PW G ph pd nr nc pL pG pB pk pa pt pm) _ := hP
    have hD : va_D A (PW G ph pd nr nc pL pG pB pk pa pt pm) := hD
    refine lv_iconst (v := nI 1) hx hb dX2_isFarKnown_28 (by decide) ?_
    have htl := tm_le pL (nr * nc) (pG pp)
    refine n_cmp_ne (tgt := 36) hx hb dX2_isFarKnown_29 (by decide) (by omega) (by omega) (fun c29 => ?_) (fun c29 => ?_)
    · skip
      refine lv_iconst (v := nI 0) hx hb dX2_isFarKnown_36 (by decide) ?_
      subst hQ
      exact ret_i hx hb hr hlk () (bI_0 (by first | (simp [fkN, c8]; done) | (simp [fkN, c29]; done))) hP hD hS rfl dX2_isFarKnown_37
    · skip
      refine lv_iconst (v := nI 1) hx hb dX2_isFarKnown_32 (by decide) ?_
      refine lv_goto (tgt := 37) hx hb dX2_isFarKnown_33 (by decide) ?_
      subst hQ
      exact ret_i hx hb hr hlk () (bI_1 (by simp [fkN, c8, c29])) hP hD hS rfl dX2_isFarKnown_37
set_option maxHeartbeats 4000000 in
set_option maxRecDepth 100000 in
theorem m_X2_farKnown (l : Launch) (G : GG) (ph : Nat) (pd : Nat → Nat) (nr : Nat) (nc : Nat) (pL : Nat → Nat) (pG : Nat → Nat) (pB : Nat → Bool) (pk : Nat → Int32) (pa : Nat → Nat) (pt : Nat → Nat) (pm : Nat) (hd : 2 ≤ nr ∧ nr ≤ 3 ∧ 2 ≤ nc ∧ nc ≤ 3) (hL : ∀ i, pL i < 65536) (hG : ∀ i, pG i < 65536) : MM l G yX2_farKnown cX2_farKnown 3 (some .int) ⟨2, 0, 0, 45⟩ [.ref ph] (PW G ph pd nr nc pL pG pB pk pa pt pm) (Qi_ G (fun (r : Int32) (_ : Unit) => r = nI (cn (fkN (nr * nc) pL pG) (nr * nc))) (fun (_ : Unit) => (PW G ph pd nr nc pL pG pB pk pa pt pm))) := by
  refine MM.of (by decide) (Nat.le_of_ble_eq_true rfl) ?_
  intro p e s m args below meth cd A C hini hA hK hZ hP hD ls hl
  generalize hQ : MQ below ((Qi_ G (fun (r : Int32) (_ : Unit) => r = nI (cn (fkN (nr * nc) pL pG) (nr * nc))) (fun (_ : Unit) => (PW G ph pd nr nc pL pG pB pk pa pt pm))) A) args s (⟨2, 0, 0, 45⟩ : Room).cells (⟨2, 0, 0, 45⟩ : Room).slots A = Q
  obtain ⟨hx, hb, hr, hts, hown, hlk, hml⟩ := C
  have hown : s.vm.findClass RX2 = some m.cls := hown
  have hS : va_S A s.heap s.heap [] := va_S.rf
  have hl : lv_has ls 3 [(0, .ref ph)] := hl
  have hmu := dm_mul hd
  refine lv_iconst (v := nI 0) hx hb dX2_farKnown_0 (by decide) ?_
  refine lv_istore_n (lv' := [(1, .int (nI 0)), (0, .ref ph)]) hx hb dX2_farKnown_1 rfl hl (by decide) rfl (fun ls hl => ?_)
  refine lv_iconst (v := nI 0) hx hb dX2_farKnown_2 (by decide) ?_
  refine lv_istore_n (lv' := [(2, .int (nI 0)), (1, .int (nI 0)), (0, .ref ph)]) hx hb dX2_farKnown_3 rfl hl (by decide) rfl (fun ls hl => ?_)
  have lp4 : ∀ (f : Nat) (i : Nat) (n : Nat), nr * nc - i < f → (i ≤ nr * nc) → (n = cn (fkN (nr * nc) pL pG) i) → ∀ (H : Heap) (locs : List Loc) (ls : Array Slot), va_P G.1 CL (PW G ph pd nr nc pL pG pB pk pa pt pm) H → va_D A (PW G ph pd nr nc pL pG pB pk pa pt pm) → va_S A s.heap H locs → lv_has ls 3 [(2, .int (nI i)), (1, .int (nI n)), (0, .ref ph)] → W p l e (⟨2, 0, 0, 45⟩ : Room) s m args below meth cd H locs 0 0 Q (F0 m 4 ls []) := by
    intro f
    induction f with
    | zero => intro i n hf; exact absurd hf (Nat.not_lt_zero _)
    | succ f ih4 =>
      intro i n hf hi hn H locs ls hP hD hS hl
      refine lv_iload_n hx hb dX2_farKnown_4 rfl (lv_at hl 0 rfl) ?_
      refine lv_aload_n hx hb dX2_farKnown_5 rfl (lv_at hl 2 rfl) ?_
      refine callVi (As := []) (rest := [.int (nI i)]) (wc := (PW G ph pd nr nc pL pG pB pk pa pt pm)) (wr := ([] : va_W)) ⟨hx, hb, hml, hown, hts⟩ (m_X2_places l G ph pd nr nc pL pG pB pk pa pt pm ) (cwV 0 hts (lw_V q474 q475 q476 q89 q477) rfl rfl rfl (by decide +kernel) ⟨Nat.le_of_ble_eq_true rfl, Nat.le_of_ble_eq_true rfl⟩) hK hZ hA hP hD hS [0, 1, 2, 3, 4, 5] [] rfl rfl (by decide) (by decide) (by decide) 0 1 rfl rfl rfl hl.1 (Nat.le_of_ble_eq_true rfl) ⟨Nat.le_of_ble_eq_true rfl, Nat.le_of_ble_eq_true rfl⟩ rfl dX2_farKnown_6 (fun r9 u9 H locs hw9 hP hD hS => ?_)
      subst hw9
      have hP : va_P G.1 CL (PW G ph pd nr nc pL pG pB pk pa pt pm) _ := hP
      have hD : va_D A (PW G ph pd nr nc pL pG pB pk pa pt pm) := hD
      refine n_cmp_ge (tgt := 34) hx hb dX2_farKnown_9 (by decide) (by omega) (by omega) (fun c9 => ?_) (fun c9 => ?_)
      · skip
        refine lv_iload_n hx hb dX2_farKnown_34 rfl (lv_at hl 1 rfl) ?_
        subst hQ
        exact ret_i hx hb hr hlk () (by rw [hn, show i = nr * nc by omega]) hP hD hS rfl dX2_farKnown_35
      · skip
        refine lv_iload_n hx hb dX2_farKnown_12 rfl (lv_at hl 1 rfl) ?_
        refine lv_aload_n hx hb dX2_farKnown_13 rfl (lv_at hl 2 rfl) ?_
        refine lv_iload_n hx hb dX2_farKnown_14 rfl (lv_at hl 0 rfl) ?_
        refine callVi (As := [.int (nI i)]) (rest := [.int (nI n)]) (wc := (PW G ph pd nr nc pL pG pB pk pa pt pm)) (wr := ([] : va_W)) ⟨hx, hb, hml, hown, hts⟩ (m_X2_isFarKnown l G ph pd nr nc pL pG pB pk pa pt pm i (by first | assumption | omega) (by first | assumption | omega) (by first | assumption | omega) (by first | assumption | omega)) (cwV 1 hts (lw_V q1674 q1676 qs33 q89 q1677) rfl rfl rfl (by decide +kernel) ⟨Nat.le_of_ble_eq_true rfl, Nat.le_of_ble_eq_true rfl⟩) hK hZ hA hP hD hS [0, 1, 2, 3, 4, 5] [] rfl rfl (by decide) (by decide) (by decide) 0 1 rfl rfl rfl hl.1 (Nat.le_of_ble_eq_true rfl) ⟨Nat.le_of_ble_eq_true rfl, Nat.le_of_ble_eq_true rfl⟩ rfl dX2_farKnown_15 (fun r9 u9 H locs hw9 hP hD hS => ?_)
        subst hw9
        have hP : va_P G.1 CL (PW G ph pd nr nc pL pG pB pk pa pt pm) _ := hP
        have hD : va_D A (PW G ph pd nr nc pL pG pB pk pa pt pm) := hD
        refine b_if_eq (tgt := 25) hx hb dX2_farKnown_18 (by decide) (fun c18 => ?_) (fun c18 => ?_)
        · skip
          refine lv_iconst (v := nI 0) hx hb dX2_farKnown_25 (by decide) ?_
          refine n_iadd hx hb dX2_farKnown_26 ?_
          refine lv_istore_n (lv' := [(1, .int (nI (n + 0))), (2, .int (nI i)), (0, .ref ph)]) hx hb dX2_farKnown_27 rfl hl (by decide) rfl (fun ls hl => ?_)
          refine lv_iinc (v := nI (i + 1)) (lv' := [(2, .int (nI (i + 1))), (1, .int (nI (n + 0))), (0, .ref ph)]) hx hb dX2_farKnown_28 hl (k := 1) rfl (nI_add _ _) (by decide) rfl (fun ls hl => ?_)
          refine lv_goto (tgt := 4) hx hb dX2_farKnown_31 (by decide) ?_
          exact ih4 (i + 1) (n + 0) (by omega) (by omega) (hn ▸ cn_f c18) _ _ _ hP hD hS (lv_sub hl [0, 1, 2] rfl)
        · skip
          refine lv_iconst (v := nI 1) hx hb dX2_farKnown_21 (by decide) ?_
          refine lv_goto (tgt := 26) hx hb dX2_farKnown_22 (by decide) ?_
          refine n_iadd hx hb dX2_farKnown_26 ?_
          refine lv_istore_n (lv' := [(1, .int (nI (n + 1))), (2, .int (nI i)), (0, .ref ph)]) hx hb dX2_farKnown_27 rfl hl (by decide) rfl (fun ls hl => ?_)
          refine lv_iinc (v := nI (i + 1)) (lv' := [(2, .int (nI (i + 1))), (1, .int (nI (n + 1))), (0, .ref ph)]) hx hb dX2_farKnown_28 hl (k := 1) rfl (nI_add _ _) (by decide) rfl (fun ls hl => ?_)
          refine lv_goto (tgt := 4) hx hb dX2_farKnown_31 (by decide) ?_
          exact ih4 (i + 1) (n + 1) (by omega) (by omega) (hn ▸ cn_t c18) _ _ _ hP hD hS (lv_sub hl [0, 1, 2] rfl)
  exact lp4 _ 0 0 (Nat.lt_succ_self _) (by omega) rfl _ _ _ hP hD hS (lv_sub hl [0, 1, 2] rfl)
set_option maxHeartbeats 4000000 in
set_option maxRecDepth 100000 in
theorem m_X2_farAll (l : Launch) (G : GG) (ph : Nat) (pd : Nat → Nat) (nr : Nat) (nc : Nat) (pL : Nat → Nat) (pG : Nat → Nat) (pB : Nat → Bool) (pk : Nat → Int32) (pa : Nat → Nat) (pt : Nat → Nat) (pm : Nat) (hd : 2 ≤ nr ∧ nr ≤ 3 ∧ 2 ≤ nc ∧ nc ≤ 3) (hL : ∀ i, pL i < 65536) (hG : ∀ i, pG i < 65536) : MM l G yX2_farAll cX2_farAll 3 (some .int) ⟨3, 0, 0, 58⟩ [.ref ph] (PW G ph pd nr nc pL pG pB pk pa pt pm) (Qi_ G (fun (r : Int32) (_ : Unit) => r = nI (sm (faN nr nc pL pG) (nr * nc))) (fun (_ : Unit) => (PW G ph pd nr nc pL pG pB pk pa pt pm))) := by
  refine MM.of (by decide) (Nat.le_of_ble_eq_true rfl) ?_
  intro p e s m args below meth cd A C hini hA hK hZ hP hD ls hl
  generalize hQ : MQ below ((Qi_ G (fun (r : Int32) (_ : Unit) => r = nI (sm (faN nr nc pL pG) (nr * nc))) (fun (_ : Unit) => (PW G ph pd nr nc pL pG pB pk pa pt pm))) A) args s (⟨3, 0, 0, 58⟩ : Room).cells (⟨3, 0, 0, 58⟩ : Room).slots A = Q
  obtain ⟨hx, hb, hr, hts, hown, hlk, hml⟩ := C
  have hown : s.vm.findClass RX2 = some m.cls := hown
  have hS : va_S A s.heap s.heap [] := va_S.rf
  have hl : lv_has ls 3 [(0, .ref ph)] := hl
  have hmu := dm_mul hd
  refine lv_iconst (v := nI 0) hx hb dX2_farAll_0 (by decide) ?_
  refine lv_istore_n (lv' := [(1, .int (nI 0)), (0, .ref ph)]) hx hb dX2_farAll_1 rfl hl (by decide) rfl (fun ls hl => ?_)
  refine lv_iconst (v := nI 0) hx hb dX2_farAll_2 (by decide) ?_
  refine lv_istore_n (lv' := [(2, .int (nI 0)), (1, .int (nI 0)), (0, .ref ph)]) hx hb dX2_farAll_3 rfl hl (by decide) rfl (fun ls hl => ?_)
  have lp4 : ∀ (f : Nat) (i : Nat) (n : Nat), nr * nc - i < f → (i ≤ nr * nc) → (n = sm (faN nr nc pL pG) i) → ∀ (H : Heap) (locs : List Loc) (ls : Array Slot), va_P G.1 CL (PW G ph pd nr nc pL pG pB pk pa pt pm) H → va_D A (PW G ph pd nr nc pL pG pB pk pa pt pm) → va_S A s.heap H locs → lv_has ls 3 [(2, .int (nI i)), (1, .int (nI n)), (0, .ref ph)] → W p l e (⟨3, 0, 0, 58⟩ : Room) s m args below meth cd H locs 0 0 Q (F0 m 4 ls []) := by
    intro f
    induction f with
    | zero => intro i n hf; exact absurd hf (Nat.not_lt_zero _)
    | succ f ih4 =>
      intro i n hf hi hn H locs ls hP hD hS hl
      refine lv_iload_n hx hb dX2_farAll_4 rfl (lv_at hl 0 rfl) ?_
      refine lv_aload_n hx hb dX2_farAll_5 rfl (lv_at hl 2 rfl) ?_
      refine callVi (As := []) (rest := [.int (nI i)]) (wc := (PW G ph pd nr nc pL pG pB pk pa pt pm)) (wr := ([] : va_W)) ⟨hx, hb, hml, hown, hts⟩ (m_X2_places l G ph pd nr nc pL pG pB pk pa pt pm ) (cwV 0 hts (lw_V q474 q475 q476 q89 q477) rfl rfl rfl (by decide +kernel) ⟨Nat.le_of_ble_eq_true rfl, Nat.le_of_ble_eq_true rfl⟩) hK hZ hA hP hD hS [0, 1, 2, 3, 4, 5] [] rfl rfl (by decide) (by decide) (by decide) 0 1 rfl rfl rfl hl.1 (Nat.le_of_ble_eq_true rfl) ⟨Nat.le_of_ble_eq_true rfl, Nat.le_of_ble_eq_true rfl⟩ rfl dX2_farAll_6 (fun r9 u9 H locs hw9 hP hD hS => ?_)
      subst hw9
      have hP : va_P G.1 CL (PW G ph pd nr nc pL pG pB pk pa pt pm) _ := hP
      have hD : va_D A (PW G ph pd nr nc pL pG pB pk pa pt pm) := hD
      refine n_cmp_ge (tgt := 52) hx hb dX2_farAll_9 (by decide) (by omega) (by omega) (fun c9 => ?_) (fun c9 => ?_)
      · skip
        refine lv_iload_n hx hb dX2_farAll_52 rfl (lv_at hl 1 rfl) ?_
        subst hQ
        exact ret_i hx hb hr hlk () (by rw [hn, show i = nr * nc by omega]) hP hD hS rfl dX2_farAll_53
      · skip
        refine lv_iload_n hx hb dX2_farAll_12 rfl (lv_at hl 1 rfl) ?_
        refine lv_aload_n hx hb dX2_farAll_13 rfl (lv_at hl 2 rfl) ?_
        refine lv_iload_n hx hb dX2_farAll_14 rfl (lv_at hl 0 rfl) ?_
        refine callVi (As := [.int (nI i)]) (rest := [.int (nI n)]) (wc := (PW G ph pd nr nc pL pG pB pk pa pt pm)) (wr := ([] : va_W)) ⟨hx, hb, hml, hown, hts⟩ (m_X2_isFarKnown l G ph pd nr nc pL pG pB pk pa pt pm i (by first | assumption | omega) (by first | assumption | omega) (by first | assumption | omega) (by first | assumption | omega)) (cwV 1 hts (lw_V q1674 q1676 qs33 q89 q1677) rfl rfl rfl (by decide +kernel) ⟨Nat.le_of_ble_eq_true rfl, Nat.le_of_ble_eq_true rfl⟩) hK hZ hA hP hD hS [0, 1, 2, 3, 4, 5] [] rfl rfl (by decide) (by decide) (by decide) 0 1 rfl rfl rfl hl.1 (Nat.le_of_ble_eq_true rfl) ⟨Nat.le_of_ble_eq_true rfl, Nat.le_of_ble_eq_true rfl⟩ rfl dX2_farAll_15 (fun r9 u9 H locs hw9 hP hD hS => ?_)
        subst hw9
        have hP : va_P G.1 CL (PW G ph pd nr nc pL pG pB pk pa pt pm) _ := hP
        have hD : va_D A (PW G ph pd nr nc pL pG pB pk pa pt pm) := hD
        refine b_if_eq (tgt := 43) hx hb dX2_farAll_18 (by decide) (fun c18 => ?_) (fun c18 => ?_)
        · skip
          refine lv_iconst (v := nI 0) hx hb dX2_farAll_43 (by decide) ?_
          refine n_iadd hx hb dX2_farAll_44 ?_
          refine lv_istore_n (lv' := [(1, .int (nI (n + 0))), (2, .int (nI i)), (0, .ref ph)]) hx hb dX2_farAll_45 rfl hl (by decide) rfl (fun ls hl => ?_)
          refine lv_iinc (v := nI (i + 1)) (lv' := [(2, .int (nI (i + 1))), (1, .int (nI (n + 0))), (0, .ref ph)]) hx hb dX2_farAll_46 hl (k := 1) rfl (nI_add _ _) (by decide) rfl (fun ls hl => ?_)
          refine lv_goto (tgt := 4) hx hb dX2_farAll_49 (by decide) ?_
          exact ih4 (i + 1) (n + 0) (by omega) (by omega) (by rw [hn, sm, faN, if_neg (by rw [c18]; decide)]) _ _ _ hP hD hS (lv_sub hl [0, 1, 2] rfl)
        · skip
          refine lv_aload_n hx hb dX2_farAll_21 rfl (lv_at hl 2 rfl) ?_
          refine lv_iload_n hx hb dX2_farAll_22 rfl (lv_at hl 0 rfl) ?_
          refine lv_aload_n hx hb dX2_farAll_23 rfl (lv_at hl 2 rfl) ?_
          refine lv_aload_n hx hb dX2_farAll_24 rfl (lv_at hl 2 rfl) ?_
          refine va_get (D := G.1) (ci := 1) (v := .ref (pd 0)) (C := RX2) (T := TX2) (N := 14) hx hb hts in_X2 hown hK hP 0 rfl rfl 2 (by decide) (hts _ q145) (fun _ h9 => h9) rfl dX2_farAll_25 ?_
          refine lv_aload_n hx hb dX2_farAll_28 rfl (lv_at hl 2 rfl) ?_
          refine va_get (D := G.1) (ci := 1) (v := .ref (pd 1)) (C := RX2) (T := TX2) (N := 14) hx hb hts in_X2 hown hK hP 0 rfl rfl 3 (by decide) (hts _ q147) (fun _ h9 => h9) rfl dX2_farAll_29 ?_
          refine lv_iload_n hx hb dX2_farAll_32 rfl (lv_at hl 0 rfl) ?_
          refine n_cald hx hb hK hP 2 2 rfl rfl (by omega) (by decide) dX2_farAll_33 ?_
          refine callVi (As := [.ref (pd 0), .int (nI (pG i))]) (rest := [.int (nI i), .ref ph, .int (nI n)]) (wc := (PW G ph pd nr nc pL pG pB pk pa pt pm)) (wr := ([] : va_W)) ⟨hx, hb, hml, hown, hts⟩ (m_X2_placeOf__L l G ph pd nr nc pL pG pB pk pa pt pm (pG i) (by first | assumption | omega) (hG _) (by first | assumption | omega)) (cwV 2 hts (lw_V q501 q503 qs5 q89 q504) rfl rfl rfl (by decide +kernel) ⟨Nat.le_of_ble_eq_true rfl, Nat.le_of_ble_eq_true rfl⟩) hK hZ hA hP hD hS [0, 1, 2, 3, 4, 5] [] rfl rfl (by decide) (by decide) (by decide) 0 1 rfl rfl rfl hl.1 (Nat.le_of_ble_eq_true rfl) ⟨Nat.le_of_ble_eq_true rfl, Nat.le_of_ble_eq_true rfl⟩ rfl dX2_farAll_34 (fun r9 u9 H locs hw9 hP hD hS => ?_)
          subst hw9
          have hP : va_P G.1 CL (PW G ph pd nr nc pL pG pB pk pa pt pm) _ := hP
          have hD : va_D A (PW G ph pd nr nc pL pG pB pk pa pt pm) := hD
          have hfx : fx (fun j => decide (pL j = pG i)) (nr * nc) < nr * nc := fx_cn (by have h := c18; simp only [fkN, Bool.and_eq_true, decide_eq_true_eq] at h; have h2 : cn (fun k => decide (pL k = pG i)) (nr * nc) = 1 := h.2; omega)
          refine eq_i (y := nI (fx (fun j => decide (pL j = pG i)) (nr * nc))) (oN_lt hfx) ?_
          refine callVi (As := [.int (nI i), .int (nI (fx (fun j => decide (pL j = pG i)) (nr * nc)))]) (rest := [.int (nI n)]) (wc := (PW G ph pd nr nc pL pG pB pk pa pt pm)) (wr := ([] : va_W)) ⟨hx, hb, hml, hown, hts⟩ (m_X2_far l G ph pd nr nc pL pG pB pk pa pt pm i (fx (fun j => decide (pL j = pG i)) (nr * nc)) (by first | assumption | omega) (by first | assumption | omega) hfx) (cwV 2 hts (lw_V q1687 q1456 q1457 q89 q1458) rfl rfl rfl (by decide +kernel) ⟨Nat.le_of_ble_eq_true rfl, Nat.le_of_ble_eq_true rfl⟩) hK hZ hA hP hD hS [0, 1, 2, 3, 4, 5] [] rfl rfl (by decide) (by decide) (by decide) 0 1 rfl rfl rfl hl.1 (Nat.le_of_ble_eq_true rfl) ⟨Nat.le_of_ble_eq_true rfl, Nat.le_of_ble_eq_true rfl⟩ rfl dX2_farAll_37 (fun r9 u9 H locs hw9 hP hD hS => ?_)
          subst hw9
          have hP : va_P G.1 CL (PW G ph pd nr nc pL pG pB pk pa pt pm) _ := hP
          have hD : va_D A (PW G ph pd nr nc pL pG pB pk pa pt pm) := hD
          refine lv_goto (tgt := 44) hx hb dX2_farAll_40 (by decide) ?_
          refine n_iadd hx hb dX2_farAll_44 ?_
          refine lv_istore_n (lv' := [(1, .int (nI (n + (farN nr nc i (fx (fun j => decide (pL j = pG i)) (nr * nc)))))), (2, .int (nI i)), (0, .ref ph)]) hx hb dX2_farAll_45 rfl hl (by decide) rfl (fun ls hl => ?_)
          refine lv_iinc (v := nI (i + 1)) (lv' := [(2, .int (nI (i + 1))), (1, .int (nI (n + (farN nr nc i (fx (fun j => decide (pL j = pG i)) (nr * nc)))))), (0, .ref ph)]) hx hb dX2_farAll_46 hl (k := 1) rfl (nI_add _ _) (by decide) rfl (fun ls hl => ?_)
          refine lv_goto (tgt := 4) hx hb dX2_farAll_49 (by decide) ?_
          exact ih4 (i + 1) (n + (farN nr nc i (fx (fun j => decide (pL j = pG i)) (nr * nc)))) (by omega) (by omega) (by rw [hn, sm, faN, if_pos c18]) _ _ _ hP hD hS (lv_sub hl [0, 1, 2] rfl)
  exact lp4 _ 0 0 (Nat.lt_succ_self _) (by omega) rfl _ _ _ hP hD hS (lv_sub hl [0, 1, 2] rfl)
set_option maxHeartbeats 4000000 in
set_option maxRecDepth 100000 in
theorem m_X2_isTurnedBack (l : Launch) (G : GG) (ph : Nat) (pd : Nat → Nat) (nr : Nat) (nc : Nat) (pL : Nat → Nat) (pG : Nat → Nat) (pB : Nat → Bool) (pk : Nat → Int32) (pa : Nat → Nat) (pt : Nat → Nat) (pm : Nat) (tt : Nat) (hd : 2 ≤ nr ∧ nr ≤ 3 ∧ 2 ≤ nc ∧ nc ≤ 3) (ht0 : tt < 2 * (nr + nc)) : MM l G yX2_isTurnedBack cX2_isTurnedBack 4 (some .boolean) ⟨3, 0, 0, 70⟩ [.ref ph, .int (nI tt)] (PW G ph pd nr nc pL pG pB pk pa pt pm) (Qi_ G (fun (r : Int32) (_ : Unit) => r = bI true) (fun (_ : Unit) => (PW G ph pd nr nc pL pG pB pk pa pt pm))) := by
  refine MM.of (by decide) (Nat.le_of_ble_eq_true rfl) ?_
  intro p e s m args below meth cd A C hini hA hK hZ hP hD ls hl
  generalize hQ : MQ below ((Qi_ G (fun (r : Int32) (_ : Unit) => r = bI true) (fun (_ : Unit) => (PW G ph pd nr nc pL pG pB pk pa pt pm))) A) args s (⟨3, 0, 0, 70⟩ : Room).cells (⟨3, 0, 0, 70⟩ : Room).slots A = Q
  obtain ⟨hx, hb, hr, hts, hown, hlk, hml⟩ := C
  have hown : s.vm.findClass RX2 = some m.cls := hown
  have hS : va_S A s.heap s.heap [] := va_S.rf
  have hl : lv_has ls 4 [(0, .ref ph), (1, .int (nI tt))] := hl
  have hmu := dm_mul hd
  refine lv_iconst (v := nI 1) hx hb dX2_isTurnedBack_0 (by decide) ?_
  refine lv_istore_n (lv' := [(2, .int (nI 1)), (0, .ref ph), (1, .int (nI tt))]) hx hb dX2_isTurnedBack_1 rfl hl (by decide) rfl (fun ls hl => ?_)
  refine lv_iconst (v := nI 0) hx hb dX2_isTurnedBack_2 (by decide) ?_
  refine lv_istore_n (lv' := [(3, .int (nI 0)), (2, .int (nI 1)), (0, .ref ph), (1, .int (nI tt))]) hx hb dX2_isTurnedBack_3 rfl hl (by decide) rfl (fun ls hl => ?_)
  have lp4 : ∀ (f : Nat) (k : Nat), nr * nc - k < f → (k ≤ nr * nc) → ∀ (H : Heap) (locs : List Loc) (ls : Array Slot), va_P G.1 CL (PW G ph pd nr nc pL pG pB pk pa pt pm) H → va_D A (PW G ph pd nr nc pL pG pB pk pa pt pm) → va_S A s.heap H locs → lv_has ls 4 [(3, .int (nI k)), (2, .int (bI true)), (0, .ref ph), (1, .int (nI tt))] → W p l e (⟨3, 0, 0, 70⟩ : Room) s m args below meth cd H locs 0 0 Q (F0 m 4 ls []) := by
    intro f
    induction f with
    | zero => intro k hf; exact absurd hf (Nat.not_lt_zero _)
    | succ f ih4 =>
      intro k hf hk H locs ls hP hD hS hl
      refine lv_iload_n hx hb dX2_isTurnedBack_4 rfl (lv_at hl 0 rfl) ?_
      refine lv_aload_n hx hb dX2_isTurnedBack_5 rfl (lv_at hl 2 rfl) ?_
      refine callVi (As := []) (rest := [.int (nI k)]) (wc := (PW G ph pd nr nc pL pG pB pk pa pt pm)) (wr := ([] : va_W)) ⟨hx, hb, hml, hown, hts⟩ (m_X2_places l G ph pd nr nc pL pG pB pk pa pt pm ) (cwV 0 hts (lw_V q474 q475 q476 q89 q477) rfl rfl rfl (by decide +kernel) ⟨Nat.le_of_ble_eq_true rfl, Nat.le_of_ble_eq_true rfl⟩) hK hZ hA hP hD hS [0, 1, 2, 3, 4, 5] [] rfl rfl (by decide) (by decide) (by decide) 0 1 rfl rfl rfl hl.1 (Nat.le_of_ble_eq_true rfl) ⟨Nat.le_of_ble_eq_true rfl, Nat.le_of_ble_eq_true rfl⟩ rfl dX2_isTurnedBack_6 (fun r9 u9 H locs hw9 hP hD hS => ?_)
      subst hw9
      have hP : va_P G.1 CL (PW G ph pd nr nc pL pG pB pk pa pt pm) _ := hP
      have hD : va_D A (PW G ph pd nr nc pL pG pB pk pa pt pm) := hD
      refine n_cmp_ge (tgt := 46) hx hb dX2_isTurnedBack_9 (by decide) (by omega) (by omega) (fun c9 => ?_) (fun c9 => ?_)
      · skip
        refine lv_iload_n hx hb dX2_isTurnedBack_46 rfl (lv_at hl 1 rfl) ?_
        subst hQ
        exact ret_i hx hb hr hlk () rfl hP hD hS (bI_nar _) dX2_isTurnedBack_47
      · skip
        refine lv_iload_n hx hb dX2_isTurnedBack_12 rfl (lv_at hl 1 rfl) ?_
        refine lv_aload_n hx hb dX2_isTurnedBack_13 rfl (lv_at hl 2 rfl) ?_
        refine lv_aload_n hx hb dX2_isTurnedBack_14 rfl (lv_at hl 2 rfl) ?_
        refine lv_iload_n hx hb dX2_isTurnedBack_15 rfl (lv_at hl 0 rfl) ?_
        refine lv_iload_n hx hb dX2_isTurnedBack_16 rfl (lv_at hl 3 rfl) ?_
        refine lv_iconst (v := nI 1) hx hb dX2_isTurnedBack_17 (by decide) ?_
        refine callVi (As := [.int (nI k), .int (nI tt), .int (nI 1)]) (rest := [.ref ph, .int (bI true)]) (wc := (PW G ph pd nr nc pL pG pB pk pa pt pm)) (wr := ([] : va_W)) ⟨hx, hb, hml, hown, hts⟩ (m_X2_where l G ph pd nr nc pL pG pB pk pa pt pm k tt 1 (by first | assumption | omega) (by first | assumption | omega) (by first | assumption | omega) (by first | assumption | omega)) (cwV 3 hts (lw_V q1069 q1070 q1071 q89 q1072) rfl rfl rfl (by decide +kernel) ⟨Nat.le_of_ble_eq_true rfl, Nat.le_of_ble_eq_true rfl⟩) hK hZ hA hP hD hS [0, 1, 2, 3, 4, 5] [] rfl rfl (by decide) (by decide) (by decide) 0 1 rfl rfl rfl hl.1 (Nat.le_of_ble_eq_true rfl) ⟨Nat.le_of_ble_eq_true rfl, Nat.le_of_ble_eq_true rfl⟩ rfl dX2_isTurnedBack_18 (fun r9 u9 H locs hw9 hP hD hS => ?_)
        subst hw9
        have hP : va_P G.1 CL (PW G ph pd nr nc pL pG pB pk pa pt pm) _ := hP
        have hD : va_D A (PW G ph pd nr nc pL pG pB pk pa pt pm) := hD
        refine lv_iload_n hx hb dX2_isTurnedBack_21 rfl (lv_at hl 3 rfl) ?_
        refine callSi (As := [.int (nI tt)]) (rest := [.int (nI (whN nr nc k tt 1)), .ref ph, .int (bI true)]) (wc := ([] : va_W)) (wr := (PW G ph pd nr nc pL pG pB pk pa pt pm)) ⟨hx, hb, hml, hown, hts⟩ (m_X2_back l G tt (by first | assumption | omega)) (va_cwS 1 hts (lw_S q1035 q1036 q89 q1037) rfl rfl rfl (by decide +kernel) ⟨Nat.le_of_ble_eq_true rfl, Nat.le_of_ble_eq_true rfl⟩) hK hZ hA hP hD hS [] [0, 1, 2, 3, 4, 5] rfl rfl (by decide) (by decide) (by decide) rfl hl.1 (Nat.le_of_ble_eq_true rfl) ⟨Nat.le_of_ble_eq_true rfl, Nat.le_of_ble_eq_true rfl⟩ rfl dX2_isTurnedBack_22 (fun r9 u9 H locs hw9 hP hD hS => ?_)
        subst hw9
        have hP : va_P G.1 CL (PW G ph pd nr nc pL pG pB pk pa pt pm) _ := hP
        have hD : va_D A (PW G ph pd nr nc pL pG pB pk pa pt pm) := hD
        refine lv_iconst (v := nI 1) hx hb dX2_isTurnedBack_25 (by decide) ?_
        refine callVi (As := [.int (nI (whN nr nc k tt 1)), .int (nI (bk tt)), .int (nI 1)]) (rest := [.int (bI true)]) (wc := (PW G ph pd nr nc pL pG pB pk pa pt pm)) (wr := ([] : va_W)) ⟨hx, hb, hml, hown, hts⟩ (m_X2_where l G ph pd nr nc pL pG pB pk pa pt pm (whN nr nc k tt 1) (bk tt) 1 (by first | assumption | omega) (wh_fin hd ht0 (by omega)).1 (bk_lt hd ht0).1 (by first | assumption | omega)) (cwV 3 hts (lw_V q1069 q1070 q1071 q89 q1072) rfl rfl rfl (by decide +kernel) ⟨Nat.le_of_ble_eq_true rfl, Nat.le_of_ble_eq_true rfl⟩) hK hZ hA hP hD hS [0, 1, 2, 3, 4, 5] [] rfl rfl (by decide) (by decide) (by decide) 0 1 rfl rfl rfl hl.1 (Nat.le_of_ble_eq_true rfl) ⟨Nat.le_of_ble_eq_true rfl, Nat.le_of_ble_eq_true rfl⟩ rfl dX2_isTurnedBack_26 (fun r9 u9 H locs hw9 hP hD hS => ?_)
        subst hw9
        have hP : va_P G.1 CL (PW G ph pd nr nc pL pG pB pk pa pt pm) _ := hP
        have hD : va_D A (PW G ph pd nr nc pL pG pB pk pa pt pm) := hD
        refine lv_iload_n hx hb dX2_isTurnedBack_29 rfl (lv_at hl 0 rfl) ?_
        refine n_cmp_ne (tgt := 37) hx hb dX2_isTurnedBack_30 (by decide) (by rw [(wh_fin hd ht0 (by omega)).2]; omega) (by omega) (fun c30 => ?_) (fun c30 => ?_)
        · skip
          exact absurd (wh_fin hd ht0 (by omega)).2 c30
        · skip
          refine lv_iconst (v := nI 1) hx hb dX2_isTurnedBack_33 (by decide) ?_
          refine lv_goto (tgt := 38) hx hb dX2_isTurnedBack_34 (by decide) ?_
          refine b_iand (a := true) (b := true) hx hb dX2_isTurnedBack_38 ?_
          refine lv_istore_n (lv' := [(2, .int (bI (true && true))), (3, .int (nI k)), (0, .ref ph), (1, .int (nI tt))]) hx hb dX2_isTurnedBack_39 rfl hl (by decide) rfl (fun ls hl => ?_)
          refine lv_iinc (v := nI (k + 1)) (lv' := [(3, .int (nI (k + 1))), (2, .int (bI (true && true))), (0, .ref ph), (1, .int (nI tt))]) hx hb dX2_isTurnedBack_40 hl (k := 1) rfl (nI_add _ _) (by decide) rfl (fun ls hl => ?_)
          refine lv_goto (tgt := 4) hx hb dX2_isTurnedBack_43 (by decide) ?_
          exact ih4 (k + 1) (by omega) (by omega) _ _ _ hP hD hS (lv_sub hl [0, 1, 2, 3] rfl)
  exact lp4 _ 0 (Nat.lt_succ_self _) (by omega) _ _ _ hP hD hS (lv_sub hl [0, 1, 2, 3] rfl)
set_option maxHeartbeats 4000000 in
set_option maxRecDepth 100000 in
theorem m_X2_areTurnsRight (l : Launch) (G : GG) (ph : Nat) (pd : Nat → Nat) (nr : Nat) (nc : Nat) (pL : Nat → Nat) (pG : Nat → Nat) (pB : Nat → Bool) (pk : Nat → Int32) (pa : Nat → Nat) (pt : Nat → Nat) (pm : Nat) (hd : 2 ≤ nr ∧ nr ≤ 3 ∧ 2 ≤ nc ∧ nc ≤ 3) : MM l G yX2_areTurnsRight cX2_areTurnsRight 3 (some .boolean) ⟨4, 0, 0, 93⟩ [.ref ph] (PW G ph pd nr nc pL pG pB pk pa pt pm) (Qi_ G (fun (r : Int32) (_ : Unit) => r = bI true) (fun (_ : Unit) => (PW G ph pd nr nc pL pG pB pk pa pt pm))) := by
  refine MM.of (by decide) (Nat.le_of_ble_eq_true rfl) ?_
  intro p e s m args below meth cd A C hini hA hK hZ hP hD ls hl
  generalize hQ : MQ below ((Qi_ G (fun (r : Int32) (_ : Unit) => r = bI true) (fun (_ : Unit) => (PW G ph pd nr nc pL pG pB pk pa pt pm))) A) args s (⟨4, 0, 0, 93⟩ : Room).cells (⟨4, 0, 0, 93⟩ : Room).slots A = Q
  obtain ⟨hx, hb, hr, hts, hown, hlk, hml⟩ := C
  have hown : s.vm.findClass RX2 = some m.cls := hown
  have hS : va_S A s.heap s.heap [] := va_S.rf
  have hl : lv_has ls 3 [(0, .ref ph)] := hl
  have hmu := dm_mul hd
  refine lv_iconst (v := nI 1) hx hb dX2_areTurnsRight_0 (by decide) ?_
  refine lv_istore_n (lv' := [(1, .int (nI 1)), (0, .ref ph)]) hx hb dX2_areTurnsRight_1 rfl hl (by decide) rfl (fun ls hl => ?_)
  refine lv_iconst (v := nI 0) hx hb dX2_areTurnsRight_2 (by decide) ?_
  refine lv_istore_n (lv' := [(2, .int (nI 0)), (1, .int (nI 1)), (0, .ref ph)]) hx hb dX2_areTurnsRight_3 rfl hl (by decide) rfl (fun ls hl => ?_)
  have lp4 : ∀ (f : Nat) (k : Nat), 2 * (nr + nc) - k < f → (k ≤ 2 * (nr + nc)) → ∀ (H : Heap) (locs : List Loc) (ls : Array Slot), va_P G.1 CL (PW G ph pd nr nc pL pG pB pk pa pt pm) H → va_D A (PW G ph pd nr nc pL pG pB pk pa pt pm) → va_S A s.heap H locs → lv_has ls 3 [(2, .int (nI k)), (1, .int (bI true)), (0, .ref ph)] → W p l e (⟨4, 0, 0, 93⟩ : Room) s m args below meth cd H locs 0 0 Q (F0 m 4 ls []) := by
    intro f
    induction f with
    | zero => intro k hf; exact absurd hf (Nat.not_lt_zero _)
    | succ f ih4 =>
      intro k hf hk H locs ls hP hD hS hl
      refine lv_iload_n hx hb dX2_areTurnsRight_4 rfl (lv_at hl 0 rfl) ?_
      refine lv_aload_n hx hb dX2_areTurnsRight_5 rfl (lv_at hl 2 rfl) ?_
      refine callVi (As := []) (rest := [.int (nI k)]) (wc := (PW G ph pd nr nc pL pG pB pk pa pt pm)) (wr := ([] : va_W)) ⟨hx, hb, hml, hown, hts⟩ (m_X2_turns l G ph pd nr nc pL pG pB pk pa pt pm ) (cwV 0 hts (lw_V q1022 q1023 q1024 q89 q1025) rfl rfl rfl (by decide +kernel) ⟨Nat.le_of_ble_eq_true rfl, Nat.le_of_ble_eq_true rfl⟩) hK hZ hA hP hD hS [0, 1, 2, 3, 4, 5] [] rfl rfl (by decide) (by decide) (by decide) 0 1 rfl rfl rfl hl.1 (Nat.le_of_ble_eq_true rfl) ⟨Nat.le_of_ble_eq_true rfl, Nat.le_of_ble_eq_true rfl⟩ rfl dX2_areTurnsRight_6 (fun r9 u9 H locs hw9 hP hD hS => ?_)
      subst hw9
      have hP : va_P G.1 CL (PW G ph pd nr nc pL pG pB pk pa pt pm) _ := hP
      have hD : va_D A (PW G ph pd nr nc pL pG pB pk pa pt pm) := hD
      refine n_cmp_ge (tgt := 26) hx hb dX2_areTurnsRight_9 (by decide) (by omega) (by omega) (fun c9 => ?_) (fun c9 => ?_)
      · skip
        refine lv_iload_n hx hb dX2_areTurnsRight_26 rfl (lv_at hl 1 rfl) ?_
        subst hQ
        exact ret_i hx hb hr hlk () rfl hP hD hS (bI_nar _) dX2_areTurnsRight_27
      · skip
        refine lv_iload_n hx hb dX2_areTurnsRight_12 rfl (lv_at hl 1 rfl) ?_
        refine lv_aload_n hx hb dX2_areTurnsRight_13 rfl (lv_at hl 2 rfl) ?_
        refine lv_iload_n hx hb dX2_areTurnsRight_14 rfl (lv_at hl 0 rfl) ?_
        refine callVi (As := [.int (nI k)]) (rest := [.int (bI true)]) (wc := (PW G ph pd nr nc pL pG pB pk pa pt pm)) (wr := ([] : va_W)) ⟨hx, hb, hml, hown, hts⟩ (m_X2_isTurnedBack l G ph pd nr nc pL pG pB pk pa pt pm k (by first | assumption | omega) (by first | assumption | omega)) (cwV 1 hts (lw_V q1065 q1067 qs13 q89 q1068) rfl rfl rfl (by decide +kernel) ⟨Nat.le_of_ble_eq_true rfl, Nat.le_of_ble_eq_true rfl⟩) hK hZ hA hP hD hS [0, 1, 2, 3, 4, 5] [] rfl rfl (by decide) (by decide) (by decide) 0 1 rfl rfl rfl hl.1 (Nat.le_of_ble_eq_true rfl) ⟨Nat.le_of_ble_eq_true rfl, Nat.le_of_ble_eq_true rfl⟩ rfl dX2_areTurnsRight_15 (fun r9 u9 H locs hw9 hP hD hS => ?_)
        subst hw9
        have hP : va_P G.1 CL (PW G ph pd nr nc pL pG pB pk pa pt pm) _ := hP
        have hD : va_D A (PW G ph pd nr nc pL pG pB pk pa pt pm) := hD
        refine b_iand (a := true) (b := true) hx hb dX2_areTurnsRight_18 ?_
        refine lv_istore_n (lv' := [(1, .int (bI (true && true))), (2, .int (nI k)), (0, .ref ph)]) hx hb dX2_areTurnsRight_19 rfl hl (by decide) rfl (fun ls hl => ?_)
        refine lv_iinc (v := nI (k + 1)) (lv' := [(2, .int (nI (k + 1))), (1, .int (bI (true && true))), (0, .ref ph)]) hx hb dX2_areTurnsRight_20 hl (k := 1) rfl (nI_add _ _) (by decide) rfl (fun ls hl => ?_)
        refine lv_goto (tgt := 4) hx hb dX2_areTurnsRight_23 (by decide) ?_
        exact ih4 (k + 1) (by omega) (by omega) _ _ _ hP hD hS (lv_sub hl [0, 1, 2] rfl)
  exact lp4 _ 0 (Nat.lt_succ_self _) (by omega) _ _ _ hP hD hS (lv_sub hl [0, 1, 2] rfl)
set_option maxHeartbeats 4000000 in
set_option maxRecDepth 100000 in
theorem m_X2_makes (l : Launch) (G : GG) (ph : Nat) (pd : Nat → Nat) (nr : Nat) (nc : Nat) (pL : Nat → Nat) (pG : Nat → Nat) (pB : Nat → Bool) (pk : Nat → Int32) (pa : Nat → Nat) (pt : Nat → Nat) (pm : Nat) (br : Nat) (bc : Nat)  : MM l G yX2_makes cX2_makes 4 none ⟨0, 0, 0, 0⟩ [.ref ph, .int (nI br), .int (nI bc)] (PW G ph pd nr nc pL pG pB pk pa pt pm) (Qv_ G (fun (_ : Unit) => True) (fun (_ : Unit) => (PW G ph pd br bc b9 b9 (fun _ => false) pk pa pt pm))) := by
  refine MM.of (by decide) (Nat.le_of_ble_eq_true rfl) ?_
  intro p e s m args below meth cd A C hini hA hK hZ hP hD ls hl
  generalize hQ : MQ below ((Qv_ G (fun (_ : Unit) => True) (fun (_ : Unit) => (PW G ph pd br bc b9 b9 (fun _ => false) pk pa pt pm))) A) args s (⟨0, 0, 0, 0⟩ : Room).cells (⟨0, 0, 0, 0⟩ : Room).slots A = Q
  obtain ⟨hx, hb, hr, hts, hown, hlk, hml⟩ := C
  have hown : s.vm.findClass RX2 = some m.cls := hown
  have hS : va_S A s.heap s.heap [] := va_S.rf
  have hl : lv_has ls 4 [(0, .ref ph), (1, .int (nI br)), (2, .int (nI bc))] := hl
  refine lv_aload_n hx hb dX2_makes_0 rfl (lv_at hl 0 rfl) ?_
  refine lv_iload_n hx hb dX2_makes_1 rfl (lv_at hl 1 rfl) ?_
  refine va_put (D := G.1) (ci := 1) (v := .int (nI br)) (ty := .int) (C := RX2) (T := TX2) (N := 14) hx hb hts in_X2 tyX2 tyX2_ok nmX2 hown hK hP hD hS 0 rfl rfl 0 (by decide) (hts _ q141) (fun _ h9 => h9) rfl (by decide +kernel) rfl rfl (Nat.le_of_ble_eq_true rfl) dX2_makes_2 (fun H locs hP hD hS => ?_)
  have hP : va_P G.1 CL (PW G ph pd br nc pL pG pB pk pa pt pm) _ := hP
  have hD : va_D A (PW G ph pd br nc pL pG pB pk pa pt pm) := hD
  refine lv_aload_n hx hb dX2_makes_5 rfl (lv_at hl 0 rfl) ?_
  refine lv_iload_n hx hb dX2_makes_6 rfl (lv_at hl 2 rfl) ?_
  refine va_put (D := G.1) (ci := 1) (v := .int (nI bc)) (ty := .int) (C := RX2) (T := TX2) (N := 14) hx hb hts in_X2 tyX2 tyX2_ok nmX2 hown hK hP hD hS 0 rfl rfl 1 (by decide) (hts _ q143) (fun _ h9 => h9) rfl (by decide +kernel) rfl rfl (Nat.le_of_ble_eq_true rfl) dX2_makes_7 (fun H locs hP hD hS => ?_)
  have hP : va_P G.1 CL (PW G ph pd br bc pL pG pB pk pa pt pm) _ := hP
  have hD : va_D A (PW G ph pd br bc pL pG pB pk pa pt pm) := hD
  refine lv_iconst (v := nI 0) hx hb dX2_makes_10 (by decide) ?_
  refine lv_istore_n (lv' := [(3, .int (nI 0)), (0, .ref ph), (1, .int (nI br)), (2, .int (nI bc))]) hx hb dX2_makes_11 rfl hl (by decide) rfl (fun ls hl => ?_)
  have lp12 : ∀ (f : Nat) (i : Nat) (M1 : Nat → Nat) (M2 : Nat → Nat), 9 - i < f → (i ≤ 9) → (∀ j, j < i → M1 j = 97 + j) → (∀ j, j < i → M2 j = 97 + j) → ∀ (H : Heap) (locs : List Loc) (ls : Array Slot), va_P G.1 CL (PW G ph pd br bc M1 M2 pB pk pa pt pm) H → va_D A (PW G ph pd br bc M1 M2 pB pk pa pt pm) → va_S A s.heap H locs → lv_has ls 4 [(3, .int (nI i)), (0, .ref ph), (1, .int (nI br)), (2, .int (nI bc))] → W p l e (⟨0, 0, 0, 0⟩ : Room) s m args below meth cd H locs 0 0 Q (F0 m 12 ls []) := by
    intro f
    induction f with
    | zero => intro i M1 M2 hf; exact absurd hf (Nat.not_lt_zero _)
    | succ f ih12 =>
      intro i M1 M2 hf hi h1 h2 H locs ls hP hD hS hl
      refine lv_iload_n hx hb dX2_makes_12 rfl (lv_at hl 0 rfl) ?_
      refine lv_bipush (v := nI 9) hx hb dX2_makes_13 (by decide) ?_
      refine n_cmp_ge (tgt := 47) hx hb dX2_makes_15 (by decide) (by omega) (by omega) (fun c15 => ?_) (fun c15 => ?_)
      · skip
        obtain ⟨hP, hD⟩ := say_n b9 hP hD 1 rfl (fun j hj => (h1 j (by omega)).trans (if_pos hj).symm)
        have hP : va_P G.1 CL (PW G ph pd br bc b9 M2 pB pk pa pt pm) _ := hP
        have hD : va_D A (PW G ph pd br bc b9 M2 pB pk pa pt pm) := hD
        obtain ⟨hP, hD⟩ := say_n b9 hP hD 2 rfl (fun j hj => (h2 j (by omega)).trans (if_pos hj).symm)
        have hP : va_P G.1 CL (PW G ph pd br bc b9 b9 pB pk pa pt pm) _ := hP
        have hD : va_D A (PW G ph pd br bc b9 b9 pB pk pa pt pm) := hD
        refine lv_iconst (v := nI 0) hx hb dX2_makes_47 (by decide) ?_
        refine lv_istore_n (lv' := [(3, .int (nI 0)), (0, .ref ph), (1, .int (nI br)), (2, .int (nI bc))]) hx hb dX2_makes_48 rfl hl (by decide) rfl (fun ls hl => ?_)
        have lp49 : ∀ (f : Nat) (i : Nat) (M3 : Nat → Bool), 6 - i < f → (i ≤ 6) → (∀ j, j < i → M3 j = false) → ∀ (H : Heap) (locs : List Loc) (ls : Array Slot), va_P G.1 CL (PW G ph pd br bc b9 b9 M3 pk pa pt pm) H → va_D A (PW G ph pd br bc b9 b9 M3 pk pa pt pm) → va_S A s.heap H locs → lv_has ls 4 [(3, .int (nI i)), (0, .ref ph), (1, .int (nI br)), (2, .int (nI bc))] → W p l e (⟨0, 0, 0, 0⟩ : Room) s m args below meth cd H locs 0 0 Q (F0 m 49 ls []) := by
          intro f
          induction f with
          | zero => intro i M3 hf; exact absurd hf (Nat.not_lt_zero _)
          | succ f ih49 =>
            intro i M3 hf hi h3 H locs ls hP hD hS hl
            refine lv_iload_n hx hb dX2_makes_49 rfl (lv_at hl 0 rfl) ?_
            refine lv_bipush (v := nI 6) hx hb dX2_makes_50 (by decide) ?_
            refine n_cmp_ge (tgt := 68) hx hb dX2_makes_52 (by decide) (by omega) (by omega) (fun c52 => ?_) (fun c52 => ?_)
            · skip
              obtain ⟨hP, hD⟩ := say_b (fun _ => false) hP hD 3 rfl (fun j hj => h3 j (by omega))
              have hP : va_P G.1 CL (PW G ph pd br bc b9 b9 (fun _ => false) pk pa pt pm) _ := hP
              have hD : va_D A (PW G ph pd br bc b9 b9 (fun _ => false) pk pa pt pm) := hD
              subst hQ
              exact ret_v hx hb hr hlk () trivial hP hD hS dX2_makes_68
            · skip
              refine lv_aload_n hx hb dX2_makes_55 rfl (lv_at hl 1 rfl) ?_
              refine va_get (D := G.1) (ci := 1) (v := .ref (pd 2)) (C := RX2) (T := TX2) (N := 14) hx hb hts in_X2 hown hK hP 0 rfl rfl 4 (by decide) (hts _ q149) (fun _ h9 => h9) rfl dX2_makes_56 ?_
              refine lv_iload_n hx hb dX2_makes_59 rfl (lv_at hl 0 rfl) ?_
              refine lv_iconst (v := nI 0) hx hb dX2_makes_60 (by decide) ?_
              refine b_zast (v := false) hx hb hK hP hD hS 3 0 rfl rfl (by omega) (by decide) dX2_makes_61 (fun H locs hP hD hS => ?_)
              have hP : va_P G.1 CL (PW G ph pd br bc b9 b9 (va_up M3 i false) pk pa pt pm) _ := hP
              have hD : va_D A (PW G ph pd br bc b9 b9 (va_up M3 i false) pk pa pt pm) := hD
              refine lv_iinc (v := nI (i + 1)) (lv' := [(3, .int (nI (i + 1))), (0, .ref ph), (1, .int (nI br)), (2, .int (nI bc))]) hx hb dX2_makes_62 hl (k := 0) rfl (nI_add _ _) (by decide) rfl (fun ls hl => ?_)
              refine lv_goto (tgt := 49) hx hb dX2_makes_65 (by decide) ?_
              exact ih49 (i + 1) (va_up M3 i false) (by omega) (by omega) (fun j hj => by unfold va_up; split; rfl; exact h3 j (by omega)) _ _ _ hP hD hS (lv_sub hl [0, 1, 2, 3] rfl)
        exact lp49 _ 0 pB (Nat.lt_succ_self _) (by omega) (fun j hj => absurd hj (Nat.not_lt_zero _)) _ _ _ hP hD hS (lv_sub hl [0, 1, 2, 3] rfl)
      · skip
        refine lv_aload_n hx hb dX2_makes_18 rfl (lv_at hl 1 rfl) ?_
        refine va_get (D := G.1) (ci := 1) (v := .ref (pd 0)) (C := RX2) (T := TX2) (N := 14) hx hb hts in_X2 hown hK hP 0 rfl rfl 2 (by decide) (hts _ q145) (fun _ h9 => h9) rfl dX2_makes_19 ?_
        refine lv_iload_n hx hb dX2_makes_22 rfl (lv_at hl 0 rfl) ?_
        refine lv_bipush (v := nI 97) hx hb dX2_makes_23 (by decide) ?_
        refine lv_iload_n hx hb dX2_makes_25 rfl (lv_at hl 0 rfl) ?_
        refine n_iadd hx hb dX2_makes_26 ?_
        refine n_i2c hx hb (by omega) dX2_makes_27 ?_
        refine n_cast hx hb hK hP hD hS 1 2 rfl rfl (by omega) (by decide) (by omega) dX2_makes_28 (fun H locs hP hD hS => ?_)
        have hP : va_P G.1 CL (PW G ph pd br bc (va_up M1 i (97 + i)) M2 pB pk pa pt pm) _ := hP
        have hD : va_D A (PW G ph pd br bc (va_up M1 i (97 + i)) M2 pB pk pa pt pm) := hD
        refine lv_aload_n hx hb dX2_makes_29 rfl (lv_at hl 1 rfl) ?_
        refine va_get (D := G.1) (ci := 1) (v := .ref (pd 1)) (C := RX2) (T := TX2) (N := 14) hx hb hts in_X2 hown hK hP 0 rfl rfl 3 (by decide) (hts _ q147) (fun _ h9 => h9) rfl dX2_makes_30 ?_
        refine lv_iload_n hx hb dX2_makes_33 rfl (lv_at hl 0 rfl) ?_
        refine lv_aload_n hx hb dX2_makes_34 rfl (lv_at hl 1 rfl) ?_
        refine va_get (D := G.1) (ci := 1) (v := .ref (pd 0)) (C := RX2) (T := TX2) (N := 14) hx hb hts in_X2 hown hK hP 0 rfl rfl 2 (by decide) (hts _ q145) (fun _ h9 => h9) rfl dX2_makes_35 ?_
        refine lv_iload_n hx hb dX2_makes_38 rfl (lv_at hl 0 rfl) ?_
        refine n_cald hx hb hK hP 1 2 rfl rfl (by omega) (by decide) dX2_makes_39 ?_
        refine n_cast hx hb hK hP hD hS 2 2 rfl rfl (by omega) (by decide) (by simp [va_up]; omega) dX2_makes_40 (fun H locs hP hD hS => ?_)
        have hP : va_P G.1 CL (PW G ph pd br bc (va_up M1 i (97 + i)) (va_up M2 i ((va_up M1 i (97 + i)) i)) pB pk pa pt pm) _ := hP
        have hD : va_D A (PW G ph pd br bc (va_up M1 i (97 + i)) (va_up M2 i ((va_up M1 i (97 + i)) i)) pB pk pa pt pm) := hD
        refine lv_iinc (v := nI (i + 1)) (lv' := [(3, .int (nI (i + 1))), (0, .ref ph), (1, .int (nI br)), (2, .int (nI bc))]) hx hb dX2_makes_41 hl (k := 0) rfl (nI_add _ _) (by decide) rfl (fun ls hl => ?_)
        refine lv_goto (tgt := 12) hx hb dX2_makes_44 (by decide) ?_
        exact ih12 (i + 1) (va_up M1 i (97 + i)) (va_up M2 i ((va_up M1 i (97 + i)) i)) (by omega) (by omega) (fun j hj => by unfold va_up; split; omega; exact h1 j (by omega)) (fun j hj => by unfold va_up; split; rw [if_pos rfl]; omega; exact h2 j (by omega)) _ _ _ hP hD hS (lv_sub hl [0, 1, 2, 3] rfl)
  exact lp12 _ 0 pL pG (Nat.lt_succ_self _) (by omega) (fun j hj => absurd hj (Nat.not_lt_zero _)) (fun j hj => absurd hj (Nat.not_lt_zero _)) _ _ _ hP hD hS (lv_sub hl [0, 1, 2, 3] rfl)
set_option maxHeartbeats 4000000 in
set_option maxRecDepth 100000 in
theorem m_X2_board (l : Launch) (G : GG) (ph : Nat) (pd : Nat → Nat) (nr : Nat) (nc : Nat) (pL : Nat → Nat) (pG : Nat → Nat) (pB : Nat → Bool) (pk : Nat → Int32) (pa : Nat → Nat) (pt : Nat → Nat) (pm : Nat) (br : Nat) (bc : Nat)  : MM l G yX2_board cX2_board 3 (some .int) ⟨1, 0, 0, 23⟩ [.ref ph, .int (nI br), .int (nI bc)] (PW G ph pd nr nc pL pG pB pk pa pt pm) (Qi_ G (fun (r : Int32) (_ : Unit) => r = nI (br * bc)) (fun (_ : Unit) => (PW G ph pd br bc b9 b9 (fun _ => false) (va_up pk 4 (pk 4 + 1)) pa pt pm))) := by
  refine MM.of (by decide) (Nat.le_of_ble_eq_true rfl) ?_
  intro p e s m args below meth cd A C hini hA hK hZ hP hD ls hl
  generalize hQ : MQ below ((Qi_ G (fun (r : Int32) (_ : Unit) => r = nI (br * bc)) (fun (_ : Unit) => (PW G ph pd br bc b9 b9 (fun _ => false) (va_up pk 4 (pk 4 + 1)) pa pt pm))) A) args s (⟨1, 0, 0, 23⟩ : Room).cells (⟨1, 0, 0, 23⟩ : Room).slots A = Q
  obtain ⟨hx, hb, hr, hts, hown, hlk, hml⟩ := C
  have hown : s.vm.findClass RX2 = some m.cls := hown
  have hS : va_S A s.heap s.heap [] := va_S.rf
  have hl : lv_has ls 3 [(0, .ref ph), (1, .int (nI br)), (2, .int (nI bc))] := hl
  refine lv_aload_n hx hb dX2_board_0 rfl (lv_at hl 0 rfl) ?_
  refine lv_iload_n hx hb dX2_board_1 rfl (lv_at hl 1 rfl) ?_
  refine lv_iload_n hx hb dX2_board_2 rfl (lv_at hl 2 rfl) ?_
  refine callVv (As := [.int (nI br), .int (nI bc)]) (rest := []) (wc := (PW G ph pd nr nc pL pG pB pk pa pt pm)) (wr := ([] : va_W)) ⟨hx, hb, hml, hown, hts⟩ (m_X2_makes l G ph pd nr nc pL pG pB pk pa pt pm br bc ) (cwV 2 hts (lw_V q137 q138 q139 q89 q140) rfl rfl rfl (by decide +kernel) ⟨Nat.le_of_ble_eq_true rfl, Nat.le_of_ble_eq_true rfl⟩) hK hZ hA hP hD hS [0, 1, 2, 3, 4, 5] [] rfl rfl (by decide) (by decide) (by decide) 0 1 rfl rfl rfl hl.1 (Nat.le_of_ble_eq_true rfl) ⟨Nat.le_of_ble_eq_true rfl, Nat.le_of_ble_eq_true rfl⟩ rfl dX2_board_3 (fun u9 H locs hw9 hP hD hS => ?_)
  have hP : va_P G.1 CL (PW G ph pd br bc b9 b9 (fun _ => false) pk pa pt pm) _ := hP
  have hD : va_D A (PW G ph pd br bc b9 b9 (fun _ => false) pk pa pt pm) := hD
  refine lv_aload_n hx hb dX2_board_6 rfl (lv_at hl 0 rfl) ?_
  refine lv_dup hx hb dX2_board_7 rfl ?_
  refine va_get (D := G.1) (ci := 1) (v := .int (pk 4)) (C := RX2) (T := TX2) (N := 14) hx hb hts in_X2 hown hK hP 0 rfl rfl 9 (by decide) (hts _ q159) (fun _ h9 => h9) rfl dX2_board_8 ?_
  refine lv_iconst (v := nI 1) hx hb dX2_board_11 (by decide) ?_
  refine lv_iadd hx hb dX2_board_12 ?_
  refine va_put (D := G.1) (ci := 1) (v := .int ((pk 4) + (nI 1))) (ty := .int) (C := RX2) (T := TX2) (N := 14) hx hb hts in_X2 tyX2 tyX2_ok nmX2 hown hK hP hD hS 0 rfl rfl 9 (by decide) (hts _ q159) (fun _ h9 => h9) rfl (by decide +kernel) rfl rfl (Nat.le_of_ble_eq_true rfl) dX2_board_13 (fun H locs hP hD hS => ?_)
  have hP : va_P G.1 CL (PW G ph pd br bc b9 b9 (fun _ => false) (va_up pk 4 ((pk 4) + (nI 1))) pa pt pm) _ := hP
  have hD : va_D A (PW G ph pd br bc b9 b9 (fun _ => false) (va_up pk 4 ((pk 4) + (nI 1))) pa pt pm) := hD
  refine lv_aload_n hx hb dX2_board_16 rfl (lv_at hl 0 rfl) ?_
  refine callVi (As := []) (rest := []) (wc := (PW G ph pd br bc b9 b9 (fun _ => false) (va_up pk 4 ((pk 4) + (nI 1))) pa pt pm)) (wr := ([] : va_W)) ⟨hx, hb, hml, hown, hts⟩ (m_X2_places l G ph pd br bc b9 b9 (fun _ => false) (va_up pk 4 ((pk 4) + (nI 1))) pa pt pm ) (cwV 0 hts (lw_V q474 q475 q476 q89 q477) rfl rfl rfl (by decide +kernel) ⟨Nat.le_of_ble_eq_true rfl, Nat.le_of_ble_eq_true rfl⟩) hK hZ hA hP hD hS [0, 1, 2, 3, 4, 5] [] rfl rfl (by decide) (by decide) (by decide) 0 1 rfl rfl rfl hl.1 (Nat.le_of_ble_eq_true rfl) ⟨Nat.le_of_ble_eq_true rfl, Nat.le_of_ble_eq_true rfl⟩ rfl dX2_board_17 (fun r9 u9 H locs hw9 hP hD hS => ?_)
  subst hw9
  have hP : va_P G.1 CL (PW G ph pd br bc b9 b9 (fun _ => false) (va_up pk 4 ((pk 4) + (nI 1))) pa pt pm) _ := hP
  have hD : va_D A (PW G ph pd br bc b9 b9 (fun _ => false) (va_up pk 4 ((pk 4) + (nI 1))) pa pt pm) := hD
  have e_k : (va_up pk 4 ((pk 4) + (nI 1))) = (va_up pk 4 (pk 4 + 1)) := rfl
  rw [e_k] at hP hD
  subst hQ
  exact ret_i hx hb hr hlk () rfl hP hD hS rfl dX2_board_20
set_option maxHeartbeats 4000000 in
set_option maxRecDepth 100000 in
theorem m_X2_bar (l : Launch) (G : GG) (ph : Nat) (pd : Nat → Nat) (nr : Nat) (nc : Nat) (pL : Nat → Nat) (pG : Nat → Nat) (pB : Nat → Bool) (pk : Nat → Int32) (pa : Nat → Nat) (pt : Nat → Nat) (pm : Nat) (ln : Nat) (hl0 : ln < 6) : MM l G yX2_bar cX2_bar 2 (some .boolean) ⟨0, 0, 0, 0⟩ [.ref ph, .int (nI ln)] (PW G ph pd nr nc pL pG pB pk pa pt pm) (Qi_ G (fun (r : Int32) (_ : Unit) => r = bI (!pB ln)) (fun (_ : Unit) => (PW G ph pd nr nc pL pG (va_up pB ln (!pB ln)) pk pa pt pm))) := by
  refine MM.of (by decide) (Nat.le_of_ble_eq_true rfl) ?_
  intro p e s m args below meth cd A C hini hA hK hZ hP hD ls hl
  generalize hQ : MQ below ((Qi_ G (fun (r : Int32) (_ : Unit) => r = bI (!pB ln)) (fun (_ : Unit) => (PW G ph pd nr nc pL pG (va_up pB ln (!pB ln)) pk pa pt pm))) A) args s (⟨0, 0, 0, 0⟩ : Room).cells (⟨0, 0, 0, 0⟩ : Room).slots A = Q
  obtain ⟨hx, hb, hr, hts, hown, hlk, hml⟩ := C
  have hown : s.vm.findClass RX2 = some m.cls := hown
  have hS : va_S A s.heap s.heap [] := va_S.rf
  have hl : lv_has ls 2 [(0, .ref ph), (1, .int (nI ln))] := hl
  refine lv_aload_n hx hb dX2_bar_0 rfl (lv_at hl 0 rfl) ?_
  refine va_get (D := G.1) (ci := 1) (v := .ref (pd 2)) (C := RX2) (T := TX2) (N := 14) hx hb hts in_X2 hown hK hP 0 rfl rfl 4 (by decide) (hts _ q149) (fun _ h9 => h9) rfl dX2_bar_1 ?_
  refine lv_iload_n hx hb dX2_bar_4 rfl (lv_at hl 1 rfl) ?_
  refine lv_aload_n hx hb dX2_bar_5 rfl (lv_at hl 0 rfl) ?_
  refine va_get (D := G.1) (ci := 1) (v := .ref (pd 2)) (C := RX2) (T := TX2) (N := 14) hx hb hts in_X2 hown hK hP 0 rfl rfl 4 (by decide) (hts _ q149) (fun _ h9 => h9) rfl dX2_bar_6 ?_
  refine lv_iload_n hx hb dX2_bar_9 rfl (lv_at hl 1 rfl) ?_
  refine b_zald hx hb hK hP 3 0 rfl rfl (by omega) (by decide) dX2_bar_10 ?_
  refine b_if_ne (tgt := 18) hx hb dX2_bar_11 (by decide) (fun c11 => ?_) (fun c11 => ?_)
  · skip
    refine lv_iconst (v := nI 0) hx hb dX2_bar_18 (by decide) ?_
    refine b_zast (v := false) hx hb hK hP hD hS 3 0 rfl rfl (by omega) (by decide) dX2_bar_19 (fun H locs hP hD hS => ?_)
    have hP : va_P G.1 CL (PW G ph pd nr nc pL pG (va_up pB ln false) pk pa pt pm) _ := hP
    have hD : va_D A (PW G ph pd nr nc pL pG (va_up pB ln false) pk pa pt pm) := hD
    refine lv_aload_n hx hb dX2_bar_20 rfl (lv_at hl 0 rfl) ?_
    refine va_get (D := G.1) (ci := 1) (v := .ref (pd 2)) (C := RX2) (T := TX2) (N := 14) hx hb hts in_X2 hown hK hP 0 rfl rfl 4 (by decide) (hts _ q149) (fun _ h9 => h9) rfl dX2_bar_21 ?_
    refine lv_iload_n hx hb dX2_bar_24 rfl (lv_at hl 1 rfl) ?_
    refine b_zald hx hb hK hP 3 0 rfl rfl (by omega) (by decide) dX2_bar_25 ?_
    have e_B : (va_up pB ln false) = (va_up pB ln (!pB ln)) := (by rw [c11]; rfl)
    rw [e_B] at hP hD
    subst hQ
    exact ret_i hx hb hr hlk () (congrArg bI (by rw [c11]; simp [va_up])) hP hD hS (bI_nar _) dX2_bar_26
  · skip
    refine lv_iconst (v := nI 1) hx hb dX2_bar_14 (by decide) ?_
    refine lv_goto (tgt := 19) hx hb dX2_bar_15 (by decide) ?_
    refine b_zast (v := true) hx hb hK hP hD hS 3 0 rfl rfl (by omega) (by decide) dX2_bar_19 (fun H locs hP hD hS => ?_)
    have hP : va_P G.1 CL (PW G ph pd nr nc pL pG (va_up pB ln true) pk pa pt pm) _ := hP
    have hD : va_D A (PW G ph pd nr nc pL pG (va_up pB ln true) pk pa pt pm) := hD
    refine lv_aload_n hx hb dX2_bar_20 rfl (lv_at hl 0 rfl) ?_
    refine va_get (D := G.1) (ci := 1) (v := .ref (pd 2)) (C := RX2) (T := TX2) (N := 14) hx hb hts in_X2 hown hK hP 0 rfl rfl 4 (by decide) (hts _ q149) (fun _ h9 => h9) rfl dX2_bar_21 ?_
    refine lv_iload_n hx hb dX2_bar_24 rfl (lv_at hl 1 rfl) ?_
    refine b_zald hx hb hK hP 3 0 rfl rfl (by omega) (by decide) dX2_bar_25 ?_
    have e_B : (va_up pB ln true) = (va_up pB ln (!pB ln)) := (by rw [c11]; rfl)
    rw [e_B] at hP hD
    subst hQ
    exact ret_i hx hb hr hlk () (congrArg bI (by rw [c11]; simp [va_up])) hP hD hS (bI_nar _) dX2_bar_26
set_option maxHeartbeats 4000000 in
set_option maxRecDepth 100000 in
theorem m_X2_scramble (l : Launch) (G : GG) (ph : Nat) (pd : Nat → Nat) (nr : Nat) (nc : Nat) (pL : Nat → Nat) (pG : Nat → Nat) (pB : Nat → Bool) (pk : Nat → Int32) (pa : Nat → Nat) (pt : Nat → Nat) (pm : Nat) (sd : Nat) (tms : Nat) (hd : 2 ≤ nr ∧ nr ≤ 3 ∧ 2 ≤ nc ∧ nc ≤ 3) (hsd : sd < 1000) (htm : tms ≤ 9) (hL : ∀ i, pL i < 65536) : MM l G yX2_scramble cX2_scramble 7 (some .int) ⟨2, 0, 0, 51⟩ [.ref ph, .int (nI sd), .int (nI tms)] (PW G ph pd nr nc pL pG pB pk pa pt pm) (Qi_ G (fun (r : Int32) (_ : Unit) => r = nI (scMN nr nc pB sd tms)) (fun (_ : Unit) => (PW G ph pd nr nc (scLN nr nc pB sd pL tms) pG pB (va_up (va_up pk 0 (pk 0 + nI (scMN nr nc pB sd tms))) 2 (pk 2 + 1)) pa pt pm))) := by
  refine MM.of (by decide) (Nat.le_of_ble_eq_true rfl) ?_
  intro p e s m args below meth cd A C hini hA hK hZ hP hD ls hl
  generalize hQ : MQ below ((Qi_ G (fun (r : Int32) (_ : Unit) => r = nI (scMN nr nc pB sd tms)) (fun (_ : Unit) => (PW G ph pd nr nc (scLN nr nc pB sd pL tms) pG pB (va_up (va_up pk 0 (pk 0 + nI (scMN nr nc pB sd tms))) 2 (pk 2 + 1)) pa pt pm))) A) args s (⟨2, 0, 0, 51⟩ : Room).cells (⟨2, 0, 0, 51⟩ : Room).slots A = Q
  obtain ⟨hx, hb, hr, hts, hown, hlk, hml⟩ := C
  have hown : s.vm.findClass RX2 = some m.cls := hown
  have hS : va_S A s.heap s.heap [] := va_S.rf
  have hl : lv_has ls 7 [(0, .ref ph), (1, .int (nI sd)), (2, .int (nI tms))] := hl
  have hmu := dm_mul hd
  refine lv_iload_n hx hb dX2_scramble_0 rfl (lv_at hl 1 rfl) ?_
  refine lv_istore_n (lv' := [(3, .int (nI sd)), (0, .ref ph), (1, .int (nI sd)), (2, .int (nI tms))]) hx hb dX2_scramble_1 rfl hl (by decide) rfl (fun ls hl => ?_)
  refine lv_iconst (v := nI 0) hx hb dX2_scramble_2 (by decide) ?_
  refine lv_istore (lv' := [(4, .int (nI 0)), (3, .int (nI sd)), (0, .ref ph), (1, .int (nI sd)), (2, .int (nI tms))]) hx hb dX2_scramble_3 hl (by decide) rfl (fun ls hl => ?_)
  refine lv_iconst (v := nI 0) hx hb dX2_scramble_5 (by decide) ?_
  refine lv_istore (lv' := [(5, .int (nI 0)), (4, .int (nI 0)), (3, .int (nI sd)), (0, .ref ph), (1, .int (nI sd)), (2, .int (nI tms))]) hx hb dX2_scramble_6 hl (by decide) rfl (fun ls hl => ?_)
  have lp8 : ∀ (f : Nat) (k : Nat) (n : Nat) (Mx : Nat → Nat), tms - k < f → (k ≤ tms) → (n = scMN nr nc pB sd k) → (Mx = scLN nr nc pB sd pL k) → ∀ (H : Heap) (locs : List Loc) (ls : Array Slot), va_P G.1 CL (PW G ph pd nr nc Mx pG pB pk pa pt pm) H → va_D A (PW G ph pd nr nc Mx pG pB pk pa pt pm) → va_S A s.heap H locs → lv_has ls 7 [(5, .int (nI k)), (4, .int (nI n)), (3, .int (nI (sdN sd k))), (0, .ref ph), (1, .int (nI sd)), (2, .int (nI tms))] → W p l e (⟨2, 0, 0, 51⟩ : Room) s m args below meth cd H locs 0 0 Q (F0 m 8 ls []) := by
    intro f
    induction f with
    | zero => intro k n Mx hf; exact absurd hf (Nat.not_lt_zero _)
    | succ f ih8 =>
      intro k n Mx hf hk hn hM H locs ls hP hD hS hl
      refine lv_iload hx hb dX2_scramble_8 (lv_at hl 0 rfl) ?_
      refine lv_iload_n hx hb dX2_scramble_10 rfl (lv_at hl 5 rfl) ?_
      refine n_cmp_ge (tgt := 62) hx hb dX2_scramble_11 (by decide) (by omega) (by omega) (fun c11 => ?_) (fun c11 => ?_)
      · skip
        refine lv_aload_n hx hb dX2_scramble_62 rfl (lv_at hl 3 rfl) ?_
        refine lv_dup hx hb dX2_scramble_63 rfl ?_
        refine va_get (D := G.1) (ci := 1) (v := .int (pk 0)) (C := RX2) (T := TX2) (N := 14) hx hb hts in_X2 hown hK hP 0 rfl rfl 5 (by decide) (hts _ q151) (fun _ h9 => h9) rfl dX2_scramble_64 ?_
        refine lv_iload hx hb dX2_scramble_67 (lv_at hl 1 rfl) ?_
        refine lv_iadd hx hb dX2_scramble_69 ?_
        refine va_put (D := G.1) (ci := 1) (v := .int ((pk 0) + (nI n))) (ty := .int) (C := RX2) (T := TX2) (N := 14) hx hb hts in_X2 tyX2 tyX2_ok nmX2 hown hK hP hD hS 0 rfl rfl 5 (by decide) (hts _ q151) (fun _ h9 => h9) rfl (by decide +kernel) rfl rfl (Nat.le_of_ble_eq_true rfl) dX2_scramble_70 (fun H locs hP hD hS => ?_)
        have hP : va_P G.1 CL (PW G ph pd nr nc Mx pG pB (va_up pk 0 ((pk 0) + (nI n))) pa pt pm) _ := hP
        have hD : va_D A (PW G ph pd nr nc Mx pG pB (va_up pk 0 ((pk 0) + (nI n))) pa pt pm) := hD
        refine lv_aload_n hx hb dX2_scramble_73 rfl (lv_at hl 3 rfl) ?_
        refine lv_dup hx hb dX2_scramble_74 rfl ?_
        refine va_get (D := G.1) (ci := 1) (v := .int ((va_up pk 0 ((pk 0) + (nI n))) 2)) (C := RX2) (T := TX2) (N := 14) hx hb hts in_X2 hown hK hP 0 rfl rfl 7 (by decide) (hts _ q155) (fun _ h9 => h9) rfl dX2_scramble_75 ?_
        refine lv_iconst (v := nI 1) hx hb dX2_scramble_78 (by decide) ?_
        refine lv_iadd hx hb dX2_scramble_79 ?_
        refine va_put (D := G.1) (ci := 1) (v := .int (((va_up pk 0 ((pk 0) + (nI n))) 2) + (nI 1))) (ty := .int) (C := RX2) (T := TX2) (N := 14) hx hb hts in_X2 tyX2 tyX2_ok nmX2 hown hK hP hD hS 0 rfl rfl 7 (by decide) (hts _ q155) (fun _ h9 => h9) rfl (by decide +kernel) rfl rfl (Nat.le_of_ble_eq_true rfl) dX2_scramble_80 (fun H locs hP hD hS => ?_)
        have hP : va_P G.1 CL (PW G ph pd nr nc Mx pG pB (va_up (va_up pk 0 ((pk 0) + (nI n))) 2 (((va_up pk 0 ((pk 0) + (nI n))) 2) + (nI 1))) pa pt pm) _ := hP
        have hD : va_D A (PW G ph pd nr nc Mx pG pB (va_up (va_up pk 0 ((pk 0) + (nI n))) 2 (((va_up pk 0 ((pk 0) + (nI n))) 2) + (nI 1))) pa pt pm) := hD
        refine lv_iload hx hb dX2_scramble_83 (lv_at hl 1 rfl) ?_
        have e_L : Mx = (scLN nr nc pB sd pL tms) := (by rw [hM, show k = tms by omega])
        rw [e_L] at hP hD
        have e_k : (va_up (va_up pk 0 ((pk 0) + (nI n))) 2 (((va_up pk 0 ((pk 0) + (nI n))) 2) + (nI 1))) = (va_up (va_up pk 0 (pk 0 + nI (scMN nr nc pB sd tms))) 2 (pk 2 + 1)) := (by rw [hn, show k = tms by omega]; rfl)
        rw [e_k] at hP hD
        subst hQ
        exact ret_i hx hb hr hlk () (by rw [hn, show k = tms by omega]) hP hD hS rfl dX2_scramble_85
      · skip
        refine lv_bipush (v := nI 73) hx hb dX2_scramble_14 (by decide) ?_
        refine lv_iload_n hx hb dX2_scramble_16 rfl (lv_at hl 2 rfl) ?_
        refine n_imul hx hb dX2_scramble_17 ?_
        refine lv_bipush (v := nI 41) hx hb dX2_scramble_18 (by decide) ?_
        refine n_iadd hx hb dX2_scramble_20 ?_
        refine lv_sipush (v := nI 1000) hx hb dX2_scramble_21 (by decide) ?_
        have hsk := sdN_lt hsd k
        refine n_irem hx hb (by omega) (by omega) (by omega) dX2_scramble_24 ?_
        refine lv_istore_n (lv' := [(3, .int (nI (((73 * (sdN sd k)) + 41) % 1000))), (5, .int (nI k)), (4, .int (nI n)), (0, .ref ph), (1, .int (nI sd)), (2, .int (nI tms))]) hx hb dX2_scramble_25 rfl hl (by decide) rfl (fun ls hl => ?_)
        refine lv_iload_n hx hb dX2_scramble_26 rfl (lv_at hl 0 rfl) ?_
        refine lv_aload_n hx hb dX2_scramble_27 rfl (lv_at hl 3 rfl) ?_
        refine callVi (As := []) (rest := [.int (nI (((73 * (sdN sd k)) + 41) % 1000))]) (wc := (PW G ph pd nr nc Mx pG pB pk pa pt pm)) (wr := ([] : va_W)) ⟨hx, hb, hml, hown, hts⟩ (m_X2_turns l G ph pd nr nc Mx pG pB pk pa pt pm ) (cwV 0 hts (lw_V q1022 q1023 q1024 q89 q1025) rfl rfl rfl (by decide +kernel) ⟨Nat.le_of_ble_eq_true rfl, Nat.le_of_ble_eq_true rfl⟩) hK hZ hA hP hD hS [0, 1, 2, 3, 4, 5] [] rfl rfl (by decide) (by decide) (by decide) 0 1 rfl rfl rfl hl.1 (Nat.le_of_ble_eq_true rfl) ⟨Nat.le_of_ble_eq_true rfl, Nat.le_of_ble_eq_true rfl⟩ rfl dX2_scramble_28 (fun r9 u9 H locs hw9 hP hD hS => ?_)
        subst hw9
        have hP : va_P G.1 CL (PW G ph pd nr nc Mx pG pB pk pa pt pm) _ := hP
        have hD : va_D A (PW G ph pd nr nc Mx pG pB pk pa pt pm) := hD
        refine n_irem hx hb (by omega) (by omega) (by omega) dX2_scramble_31 ?_
        refine lv_istore (lv' := [(6, .int (nI ((((73 * (sdN sd k)) + 41) % 1000) % (2 * (nr + nc))))), (3, .int (nI (((73 * (sdN sd k)) + 41) % 1000))), (5, .int (nI k)), (4, .int (nI n)), (0, .ref ph), (1, .int (nI sd)), (2, .int (nI tms))]) hx hb dX2_scramble_32 hl (by decide) rfl (fun ls hl => ?_)
        have hst : sctN nr nc sd k < 2 * (nr + nc) := Nat.mod_lt _ (by omega)
        refine lv_aload_n hx hb dX2_scramble_34 rfl (lv_at hl 4 rfl) ?_
        refine lv_iload hx hb dX2_scramble_35 (lv_at hl 0 rfl) ?_
        refine callVi (As := [.int (nI ((((73 * (sdN sd k)) + 41) % 1000) % (2 * (nr + nc))))]) (rest := []) (wc := (PW G ph pd nr nc Mx pG pB pk pa pt pm)) (wr := ([] : va_W)) ⟨hx, hb, hml, hown, hts⟩ (m_X2_can l G ph pd nr nc Mx pG pB pk pa pt pm ((((73 * (sdN sd k)) + 41) % 1000) % (2 * (nr + nc))) (by first | assumption | omega) (Nat.lt_of_lt_of_le hst (by omega))) (cwV 1 hts (lw_V q1027 q1028 q1029 q89 q1030) rfl rfl rfl (by decide +kernel) ⟨Nat.le_of_ble_eq_true rfl, Nat.le_of_ble_eq_true rfl⟩) hK hZ hA hP hD hS [0, 1, 2, 3, 4, 5] [] rfl rfl (by decide) (by decide) (by decide) 0 1 rfl rfl rfl hl.1 (Nat.le_of_ble_eq_true rfl) ⟨Nat.le_of_ble_eq_true rfl, Nat.le_of_ble_eq_true rfl⟩ rfl dX2_scramble_37 (fun r9 u9 H locs hw9 hP hD hS => ?_)
        subst hw9
        have hP : va_P G.1 CL (PW G ph pd nr nc Mx pG pB pk pa pt pm) _ := hP
        have hD : va_D A (PW G ph pd nr nc Mx pG pB pk pa pt pm) := hD
        refine b_if_eq (tgt := 56) hx hb dX2_scramble_40 (by decide) (fun c40 => ?_) (fun c40 => ?_)
        · skip
          refine lv_iinc (v := nI (k + 1)) (lv' := [(5, .int (nI (k + 1))), (6, .int (nI ((((73 * (sdN sd k)) + 41) % 1000) % (2 * (nr + nc))))), (3, .int (nI (((73 * (sdN sd k)) + 41) % 1000))), (4, .int (nI n)), (0, .ref ph), (1, .int (nI sd)), (2, .int (nI tms))]) hx hb dX2_scramble_56 hl (k := 2) rfl (nI_add _ _) (by decide) rfl (fun ls hl => ?_)
          refine lv_goto (tgt := 8) hx hb dX2_scramble_59 (by decide) ?_
          exact ih8 (k + 1) n Mx (by omega) (by omega) (by rw [hn]; exact (cn_f c40)) (by rw [hM]; exact (if_pos (by have c9 : (!pB (sctN nr nc sd k / 2)) = false := c40; simpa using c9)).symm) _ _ _ hP hD hS (lv_sub hl [0, 3, 2, 4, 5, 6] rfl)
        · skip
          refine lv_aload_n hx hb dX2_scramble_43 rfl (lv_at hl 4 rfl) ?_
          refine lv_aload_n hx hb dX2_scramble_44 rfl (lv_at hl 4 rfl) ?_
          refine va_get (D := G.1) (ci := 1) (v := .ref (pd 0)) (C := RX2) (T := TX2) (N := 14) hx hb hts in_X2 hown hK hP 0 rfl rfl 2 (by decide) (hts _ q145) (fun _ h9 => h9) rfl dX2_scramble_45 ?_
          refine lv_iload hx hb dX2_scramble_48 (lv_at hl 0 rfl) ?_
          refine callVv (As := [.ref (pd 0), .int (nI ((((73 * (sdN sd k)) + 41) % 1000) % (2 * (nr + nc))))]) (rest := []) (wc := (PW G ph pd nr nc Mx pG pB pk pa pt pm)) (wr := ([] : va_W)) ⟨hx, hb, hml, hown, hts⟩ (m_X2_turns_2__L l G ph pd nr nc Mx pG pB pk pa pt pm ((((73 * (sdN sd k)) + 41) % 1000) % (2 * (nr + nc))) (by first | assumption | omega) hst (by rw [hM]; exact scLN_lt hL _)) (cwV 2 hts (lw_V q1031 q1032 q1033 q89 q1034) rfl rfl rfl (by decide +kernel) ⟨Nat.le_of_ble_eq_true rfl, Nat.le_of_ble_eq_true rfl⟩) hK hZ hA hP hD hS [0, 1, 2, 3, 4, 5] [] rfl rfl (by decide) (by decide) (by decide) 0 1 rfl rfl rfl hl.1 (Nat.le_of_ble_eq_true rfl) ⟨Nat.le_of_ble_eq_true rfl, Nat.le_of_ble_eq_true rfl⟩ rfl dX2_scramble_50 (fun u9 H locs hw9 hP hD hS => ?_)
          have hP : va_P G.1 CL (PW G ph pd nr nc (tn nr nc ((((73 * (sdN sd k)) + 41) % 1000) % (2 * (nr + nc))) Mx) pG pB pk pa pt pm) _ := hP
          have hD : va_D A (PW G ph pd nr nc (tn nr nc ((((73 * (sdN sd k)) + 41) % 1000) % (2 * (nr + nc))) Mx) pG pB pk pa pt pm) := hD
          refine lv_iinc (v := nI (n + 1)) (lv' := [(4, .int (nI (n + 1))), (6, .int (nI ((((73 * (sdN sd k)) + 41) % 1000) % (2 * (nr + nc))))), (3, .int (nI (((73 * (sdN sd k)) + 41) % 1000))), (5, .int (nI k)), (0, .ref ph), (1, .int (nI sd)), (2, .int (nI tms))]) hx hb dX2_scramble_53 hl (k := 3) rfl (nI_add _ _) (by decide) rfl (fun ls hl => ?_)
          refine lv_iinc (v := nI (k + 1)) (lv' := [(5, .int (nI (k + 1))), (4, .int (nI (n + 1))), (6, .int (nI ((((73 * (sdN sd k)) + 41) % 1000) % (2 * (nr + nc))))), (3, .int (nI (((73 * (sdN sd k)) + 41) % 1000))), (0, .ref ph), (1, .int (nI sd)), (2, .int (nI tms))]) hx hb dX2_scramble_56 hl (k := 3) rfl (nI_add _ _) (by decide) rfl (fun ls hl => ?_)
          refine lv_goto (tgt := 8) hx hb dX2_scramble_59 (by decide) ?_
          exact ih8 (k + 1) (n + 1) (tn nr nc ((((73 * (sdN sd k)) + 41) % 1000) % (2 * (nr + nc))) Mx) (by omega) (by omega) (by rw [hn]; exact cn_t c40) (by rw [hM]; exact (if_neg (by have c9 : (!pB (sctN nr nc sd k / 2)) = true := c40; intro z; rw [z] at c9; exact absurd c9 (by decide))).symm) _ _ _ hP hD hS (lv_sub hl [0, 1, 3, 4, 5, 6] rfl)
  exact lp8 _ 0 0 pL (Nat.lt_succ_self _) (by omega) rfl rfl _ _ _ hP hD hS (lv_sub hl [0, 1, 2, 3, 4, 5] rfl)
