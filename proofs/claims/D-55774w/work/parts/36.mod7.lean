/-! ===== texts ===== -/
def HoldT (xs : List Nat) (lt : Nat → Nat) (ln : Nat) : Prop := ln = xs.length ∧ ∀ j c, xs[j]? = some c → lt j = c
theorem HoldT.nil {lt : Nat → Nat} : HoldT [] lt 0 := ⟨rfl, fun j c h => by simp at h⟩
theorem HoldT.push {xs : List Nat} {lt : Nat → Nat} {ln c : Nat} (h : HoldT xs lt ln) : HoldT (xs ++ [c]) (va_up lt ln c) (ln + 1) := by
  obtain ⟨h1, h2⟩ := h
  refine ⟨by simp [h1], fun j d hd => ?_⟩
  by_cases hj : j < xs.length
  · rw [List.getElem?_append_left hj] at hd
    unfold va_up; rw [if_neg (by omega)]; exact h2 j d hd
  · rw [List.getElem?_append_right (by omega)] at hd
    have hz : j - xs.length < 1 := (List.getElem?_eq_some_iff.mp hd).1
    rw [show j - xs.length = 0 by omega] at hd
    cases hd
    unfold va_up; rw [if_pos (by omega)]
theorem HoldT.at {xs : List Nat} {lt : Nat → Nat} {ln : Nat} (h : HoldT xs lt ln) {j : Nat} (hj : j < ln) : lt j = xs.getD j 0 := by
  have hl : j < xs.length := by rw [← h.1]; exact hj
  rw [h.2 j xs[j] (List.getElem?_eq_getElem hl)]
  simp [hl]
/-- the board as text -/
def txN (nc : Nat) (A : Nat → Nat) : Nat → List Nat
  | 0 => []
  | i + 1 => txN nc A i ++ (if 0 < i ∧ i % nc = 0 then [47] else []) ++ [A i]
theorem txN_len (nc : Nat) (A : Nat → Nat) : ∀ i, (txN nc A i).length ≤ 2 * i
  | 0 => by simp [txN]
  | i + 1 => by
    have := txN_len nc A i
    simp only [txN, List.length_append, List.length_cons, List.length_nil]
    split <;> simp <;> omega
def lsN (A : Nat → Nat) : Nat → List Nat
  | 0 => []
  | i + 1 => lsN A i ++ [A i]
theorem lsN_len (A : Nat → Nat) : ∀ i, (lsN A i).length = i
  | 0 => rfl
  | i + 1 => by simp [lsN, lsN_len A i]
/-- a line as text -/
def lineX (nr nc : Nat) (L : Nat → Nat) (B : Nat → Bool) (l : Nat) : List Nat := (if B l = true then [35] else []) ++ lsN (fun k => L (plOn nr nc l k)) (szOf nr nc l) ++ (if snN nr nc L l = true then [33] else [])
theorem in_ix0 {p : Int32} {n : Nat} (h : n < 2147483648) : decide (nI 0 ≤ p ∧ p ≤ nI n - nI 1) = isIx p n := by
  rcases Nat.eq_zero_or_pos n with rfl | h0
  · unfold isIx
    have e : nI 0 - nI 1 = (-1 : Int32) := by decide
    rw [e, decide_eq_decide, Int32.le_iff_toInt_le, Int32.le_iff_toInt_le, nI_toInt (by decide)]
    have h2 : (-1 : Int32).toInt = -1 := by decide
    omega
  · rw [pk_sub (by omega)]; exact in_ix h0 h
def acV (nr nc : Nat) (B : Nat → Bool) (k : Nat → Int32) (ty ch : Nat) (w : Int32) : Int32 := if w = nI 0 then nI (nr * nc) else if w = nI 1 then nI (cn B (nr + nc)) else if w = nI 2 then k 0 else if w = nI 3 then k 1 else if w = nI 4 then k 2 else if w = nI 5 then k 3 else if w = nI 6 then k 4 else if w = nI 7 then k 5 else if w = nI 8 then nI ty else if w = nI 9 then nI ch else nI 0
def ac1 (w : Int32) : Int32 := if w = nI 0 ∨ w = nI 1 ∨ w = nI 2 ∨ w = nI 3 ∨ w = nI 4 ∨ w = nI 5 ∨ w = nI 6 ∨ w = nI 7 ∨ w = nI 8 ∨ w = nI 9 then nI 0 else nI 1
theorem cn_0 {P : Nat → Bool} : ∀ {n : Nat}, (∀ k, k < n → P k = false) → cn P n = 0
  | 0, _ => rfl
  | n + 1, h => by rw [← cn_f (h n (by omega)), cn_0 (fun k hk => h k (by omega))]
theorem cn_0' {P : Nat → Bool} : ∀ {n : Nat}, cn P n = 0 → ∀ k, k < n → P k = false
  | n + 1, h, k, hk => by
    have h1 : P n = false := by cases hp : P n; rfl; (rw [← cn_t hp] at h; omega)
    have h2 : cn P n = 0 := by rw [← cn_f h1] at h; omega
    by_cases z : k = n
    · subst z; exact h1
    · exact cn_0' h2 k (by omega)
theorem lx_fx {P : Nat → Bool} {d : Nat} : ∀ {n : Nat}, cn P n = 1 → lx P d n = fx P n
  | n + 1, h => by
    cases hp : P n with
    | true =>
      have h1 : cn P n = 0 := by rw [← cn_t hp] at h; omega
      rw [lx, if_pos hp, fx_lt (by omega) (fx_all (cn_0' h1)) hp]
    | false =>
      have h1 : cn P n = 1 := by rw [← cn_f hp] at h; omega
      have h2 : fx P n < n := fx_cn (by omega)
      rw [lx, if_neg (by rw [hp]; decide), lx_fx h1, fx_stay h2 (Nat.le_succ n)]
theorem sm_fa {nr nc : Nat} {L K : Nat → Nat} (hd : 2 ≤ nr ∧ nr ≤ 3 ∧ 2 ≤ nc ∧ nc ≤ 3) : ∀ i, i ≤ nr * nc → sm (faN nr nc L K) i ≤ 9 * i
  | 0, _ => by simp [sm]
  | i + 1, h => by
    have ih := sm_fa (L := L) (K := K) hd i (by omega)
    have h1 : faN nr nc L K i ≤ 9 := by
      unfold faN
      by_cases hf : fkN (nr * nc) L K i = true
      · rw [if_pos hf]
        simp only [fkN, Bool.and_eq_true, decide_eq_true_eq] at hf
        have h2 : cn (fun k => decide (L k = K i)) (nr * nc) = 1 := hf.2
        have := farN_lt hd (show i < nr * nc by omega) (fx_cn (P := fun j => decide (L j = K i)) (n := nr * nc) (by omega))
        omega
      · rw [if_neg hf]; omega
    simp only [sm]; omega
theorem fp_d {s n : Nat} (hs : s < 82) (hn : n < 10) (h0 : 0 < n) : vf_n64 (FP.ddiv (FP.i2d (nI s)) (FP.i2d (nI n))) := by
  have h : ∀ s, s < 82 → ∀ n, n < 10 → 0 < n → vf_n64 (FP.ddiv (FP.i2d (nI s)) (FP.i2d (nI n))) := by unfold vf_n64; decide +kernel
  exact h s hs n hn h0
theorem fp_f {s n : Nat} (hs : s < 10) (hn : n < 10) (h0 : 0 < n) : vf_n32 (FP.fdiv (FP.i2f (nI s)) (FP.i2f (nI n))) ∧ vf_n64 (FP.f2d (FP.fdiv (FP.i2f (nI s)) (FP.i2f (nI n)))) := by
  have h : ∀ s, s < 10 → ∀ n, n < 10 → 0 < n → (vf_n32 (FP.fdiv (FP.i2f (nI s)) (FP.i2f (nI n))) ∧ vf_n64 (FP.f2d (FP.fdiv (FP.i2f (nI s)) (FP.i2f (nI n))))) := by unfold vf_n64 vf_n32; decide +kernel
  exact h s hs n hn h0
def rsZ (hs : Bool) (sz z : ZT) : ZT := if hs = true then sz else z
theorem HistA.pop {hi : Nat → Int32} {zl : List ZT} {ch : Nat} (h : HistA hi zl ch) : HistA hi zl.dropLast (ch - 1) := by
  obtain ⟨h1, h2, h3⟩ := h
  refine ⟨by simp [h1], by omega, fun i z hz j hj => h3 i z ?_ j hj⟩
  rw [List.getElem?_dropLast] at hz
  split at hz
  · exact hz
  · cases hz
theorem HistA.last {hi : Nat → Int32} {zl : List ZT} {ch : Nat} (h : HistA hi zl ch) (h0 : 0 < ch) (z0 : ZT) {gr : Nat → Int32} : ∀ j, j < 32 → va_cpy hi gr ((ch - 1) * 32) 0 32 j = gZ (zl.getLastD z0) j := fun j hj => by
  obtain ⟨h1, h2, h3⟩ := h
  have hl : zl.length - 1 < zl.length := by omega
  have e : zl[zl.length - 1]? = some (zl.getLastD z0) := by
    cases zl with
    | nil => simp at h1; omega
    | cons a t => simp [List.getLastD, List.getLast_eq_getElem]
  have := h3 (zl.length - 1) _ e j hj
  unfold va_cpy; rw [if_pos (by omega), ← this]; congr 1; omega
set_option maxHeartbeats 4000000 in
set_option maxRecDepth 100000 in
theorem m_X5_writes (l : Launch) (G : GG) (mh : Nat) (md : Nat → Nat) (nr : Nat) (nc : Nat) (pL : Nat → Nat) (pG : Nat → Nat) (pB : Nat → Bool) (pk : Nat → Int32) (bf : Nat → Int32) (hi : Nat → Int32) (sv : Nat → Int32) (ch : Nat) (hs : Bool) (inp : Nat → Nat) (ty : Nat) (er : Int32) (wy : Int32) (wd : Int32) (rf : Bool) (lt : Nat → Nat) (ln : Nat) (th : Int32) (tr : Nat → Nat) (mv : Nat → Nat) (fo : Int32) (sp : Nat) (wr : Bool) (td : Nat → Int32) (wc : Nat) (hwc : wc < 65536) (hln : ln < 20) : MM l G yX5_writes cX5_writes 2 none ⟨0, 0, 0, 0⟩ [.ref mh, .int (nI wc)] (MW G mh md nr nc pL pG pB pk bf hi sv ch hs inp ty er wy wd rf lt ln th tr mv fo sp wr td) (Qv_ G (fun (_ : Unit) => True) (fun (_ : Unit) => (MW G mh md nr nc pL pG pB pk bf hi sv ch hs inp ty er wy wd rf (va_up lt ln wc) (ln + 1) th tr mv fo sp wr td))) := by
  refine MM.of (by decide) (Nat.le_of_ble_eq_true rfl) ?_
  intro p e s m args below meth cd A C hini hA hK hZ hP hD ls hl
  generalize hQ : MQ below ((Qv_ G (fun (_ : Unit) => True) (fun (_ : Unit) => (MW G mh md nr nc pL pG pB pk bf hi sv ch hs inp ty er wy wd rf (va_up lt ln wc) (ln + 1) th tr mv fo sp wr td))) A) args s (⟨0, 0, 0, 0⟩ : Room).cells (⟨0, 0, 0, 0⟩ : Room).slots A = Q
  obtain ⟨hx, hb, hr, hts, hown, hlk, hml⟩ := C
  have hown : s.vm.findClass RX5 = some m.cls := hown
  have hS : va_S A s.heap s.heap [] := va_S.rf
  have hl : lv_has ls 2 [(0, .ref mh), (1, .int (nI wc))] := hl
  refine lv_aload_n hx hb dX5_writes_0 rfl (lv_at hl 0 rfl) ?_
  refine va_get (D := G.1) (ci := 4) (v := .ref (md 5)) (C := RX5) (T := TX5) (N := 21) hx hb hts in_X5 hown hK hP 0 rfl rfl 12 (by decide) (hts _ q1739) (fun _ h9 => h9) rfl dX5_writes_1 ?_
  refine lv_aload_n hx hb dX5_writes_4 rfl (lv_at hl 0 rfl) ?_
  refine va_get (D := G.1) (ci := 4) (v := .int (nI ln)) (C := RX5) (T := TX5) (N := 21) hx hb hts in_X5 hown hK hP 0 rfl rfl 13 (by decide) (hts _ q1740) (fun _ h9 => h9) rfl dX5_writes_5 ?_
  refine lv_iload_n hx hb dX5_writes_8 rfl (lv_at hl 1 rfl) ?_
  refine n_i2c hx hb hwc dX5_writes_9 ?_
  refine n_cast hx hb hK hP hD hS 6 2 rfl rfl (by omega) (by decide) hwc dX5_writes_10 (fun H locs hP hD hS => ?_)
  have hP : va_P G.1 CL (MW G mh md nr nc pL pG pB pk bf hi sv ch hs inp ty er wy wd rf (va_up lt ln wc) ln th tr mv fo sp wr td) _ := hP
  have hD : va_D A (MW G mh md nr nc pL pG pB pk bf hi sv ch hs inp ty er wy wd rf (va_up lt ln wc) ln th tr mv fo sp wr td) := hD
  refine lv_aload_n hx hb dX5_writes_11 rfl (lv_at hl 0 rfl) ?_
  refine lv_dup hx hb dX5_writes_12 rfl ?_
  refine va_get (D := G.1) (ci := 4) (v := .int (nI ln)) (C := RX5) (T := TX5) (N := 21) hx hb hts in_X5 hown hK hP 0 rfl rfl 13 (by decide) (hts _ q1740) (fun _ h9 => h9) rfl dX5_writes_13 ?_
  refine lv_iconst (v := nI 1) hx hb dX5_writes_16 (by decide) ?_
  refine n_iadd hx hb dX5_writes_17 ?_
  refine va_put (D := G.1) (ci := 4) (v := .int (nI (ln + 1))) (ty := .int) (C := RX5) (T := TX5) (N := 21) hx hb hts in_X5 tyX5 tyX5_ok nmX5 hown hK hP hD hS 0 rfl rfl 13 (by decide) (hts _ q1740) (fun _ h9 => h9) rfl (by decide +kernel) rfl rfl (Nat.le_of_ble_eq_true rfl) dX5_writes_18 (fun H locs hP hD hS => ?_)
  have hP : va_P G.1 CL (MW G mh md nr nc pL pG pB pk bf hi sv ch hs inp ty er wy wd rf (va_up lt ln wc) (ln + 1) th tr mv fo sp wr td) _ := hP
  have hD : va_D A (MW G mh md nr nc pL pG pB pk bf hi sv ch hs inp ty er wy wd rf (va_up lt ln wc) (ln + 1) th tr mv fo sp wr td) := hD
  subst hQ
  exact ret_v hx hb hr hlk () trivial hP hD hS dX5_writes_21
set_option maxHeartbeats 4000000 in
set_option maxRecDepth 100000 in
theorem m_X5_writesAll__L (l : Launch) (G : GG) (mh : Nat) (md : Nat → Nat) (nr : Nat) (nc : Nat) (pL : Nat → Nat) (pG : Nat → Nat) (pB : Nat → Bool) (pk : Nat → Int32) (bf : Nat → Int32) (hi : Nat → Int32) (sv : Nat → Int32) (ch : Nat) (hs : Bool) (inp : Nat → Nat) (ty : Nat) (er : Int32) (wy : Int32) (wd : Int32) (rf : Bool) (lt : Nat → Nat) (ln : Nat) (th : Int32) (tr : Nat → Nat) (mv : Nat → Nat) (fo : Int32) (sp : Nat) (wr : Bool) (td : Nat → Int32) (hd : 2 ≤ nr ∧ nr ≤ 3 ∧ 2 ≤ nc ∧ nc ≤ 3) (hLR : ∀ q, q < nr * nc → 97 ≤ pL q ∧ pL q ≤ 108) : MM l G yX5_writesAll cX5_writesAll 3 (some .int) ⟨1, 0, 0, 21⟩ [.ref mh, .int (nI 14)] (MW G mh md nr nc pL pG pB pk bf hi sv ch hs inp ty er wy wd rf lt ln th tr mv fo sp wr td) (Qi_ G (fun (r : Int32) (u : (Nat → Nat) × (Nat)) => (r = nI ((txN nc pL (nr * nc)).length)) ∧ (HoldT (txN nc pL (nr * nc)) u.1 u.2)) (fun (u : (Nat → Nat) × (Nat)) => (MW G mh md nr nc pL pG pB pk bf hi sv ch hs inp ty er wy wd rf u.1 u.2 (nI 0) tr mv fo sp wr td))) := by
  refine MM.of (by decide) (Nat.le_of_ble_eq_true rfl) ?_
  intro p e s m args below meth cd A C hini hA hK hZ hP hD ls hl
  generalize hQ : MQ below ((Qi_ G (fun (r : Int32) (u : (Nat → Nat) × (Nat)) => (r = nI ((txN nc pL (nr * nc)).length)) ∧ (HoldT (txN nc pL (nr * nc)) u.1 u.2)) (fun (u : (Nat → Nat) × (Nat)) => (MW G mh md nr nc pL pG pB pk bf hi sv ch hs inp ty er wy wd rf u.1 u.2 (nI 0) tr mv fo sp wr td))) A) args s (⟨1, 0, 0, 21⟩ : Room).cells (⟨1, 0, 0, 21⟩ : Room).slots A = Q
  obtain ⟨hx, hb, hr, hts, hown, hlk, hml⟩ := C
  have hown : s.vm.findClass RX5 = some m.cls := hown
  have hS : va_S A s.heap s.heap [] := va_S.rf
  have hl : lv_has ls 3 [(0, .ref mh), (1, .int (nI 14))] := hl
  have hmu := dm_mul hd
  refine lv_aload_n hx hb dX5_writesAll_0 rfl (lv_at hl 0 rfl) ?_
  refine lv_iconst (v := nI 0) hx hb dX5_writesAll_1 (by decide) ?_
  refine va_put (D := G.1) (ci := 4) (v := .int (nI 0)) (ty := .int) (C := RX5) (T := TX5) (N := 21) hx hb hts in_X5 tyX5 tyX5_ok nmX5 hown hK hP hD hS 0 rfl rfl 13 (by decide) (hts _ q1740) (fun _ h9 => h9) rfl (by decide +kernel) rfl rfl (Nat.le_of_ble_eq_true rfl) dX5_writesAll_2 (fun H locs hP hD hS => ?_)
  have hP : va_P G.1 CL (MW G mh md nr nc pL pG pB pk bf hi sv ch hs inp ty er wy wd rf lt 0 th tr mv fo sp wr td) _ := hP
  have hD : va_D A (MW G mh md nr nc pL pG pB pk bf hi sv ch hs inp ty er wy wd rf lt 0 th tr mv fo sp wr td) := hD
  refine lv_iconst (v := nI 0) hx hb dX5_writesAll_5 (by decide) ?_
  refine lv_istore_n (lv' := [(2, .int (nI 0)), (0, .ref mh), (1, .int (nI 14))]) hx hb dX5_writesAll_6 rfl hl (by decide) rfl (fun ls hl => ?_)
  have lp7 : ∀ (f : Nat) (i : Nat) (lt2 : Nat → Nat) (ln2 : Nat), nr * nc - i < f → (i ≤ nr * nc) → (HoldT (txN nc pL i) lt2 ln2) → ∀ (H : Heap) (locs : List Loc) (ls : Array Slot), va_P G.1 CL (MW G mh md nr nc pL pG pB pk bf hi sv ch hs inp ty er wy wd rf lt2 ln2 th tr mv fo sp wr td) H → va_D A (MW G mh md nr nc pL pG pB pk bf hi sv ch hs inp ty er wy wd rf lt2 ln2 th tr mv fo sp wr td) → va_S A s.heap H locs → lv_has ls 3 [(2, .int (nI i)), (0, .ref mh), (1, .int (nI 14))] → W p l e (⟨1, 0, 0, 21⟩ : Room) s m args below meth cd H locs 0 0 Q (F0 m 7 ls []) := by
    intro f
    induction f with
    | zero => intro i lt2 ln2 hf; exact absurd hf (Nat.not_lt_zero _)
    | succ f ih7 =>
      intro i lt2 ln2 hf hi9 hT9 H locs ls hP hD hS hl
      refine lv_iload_n hx hb dX5_writesAll_7 rfl (lv_at hl 0 rfl) ?_
      refine lv_aload_n hx hb dX5_writesAll_8 rfl (lv_at hl 1 rfl) ?_
      refine callVi (As := []) (rest := [.int (nI i)]) (wc := (MW G mh md nr nc pL pG pB pk bf hi sv ch hs inp ty er wy wd rf lt2 ln2 th tr mv fo sp wr td)) (wr := ([] : va_W)) ⟨hx, hb, hml, hown, hts⟩ (m_X5_places l G mh md nr nc pL pG pB pk bf hi sv ch hs inp ty er wy wd rf lt2 ln2 th tr mv fo sp wr td ) (cwV 0 hts (lw_V q1817 q1819 qs38 q105 q1820) rfl rfl rfl (by decide +kernel) ⟨Nat.le_of_ble_eq_true rfl, Nat.le_of_ble_eq_true rfl⟩) hK hZ hA hP hD hS [0, 1, 2, 3, 4, 5, 6, 7, 8, 9] [] rfl rfl (by decide) (by decide) (by decide) 0 4 rfl rfl rfl hl.1 (Nat.le_of_ble_eq_true rfl) ⟨Nat.le_of_ble_eq_true rfl, Nat.le_of_ble_eq_true rfl⟩ rfl dX5_writesAll_9 (fun r9 u9 H locs hw9 hP hD hS => ?_)
      subst hw9
      have hP : va_P G.1 CL (MW G mh md nr nc pL pG pB pk bf hi sv ch hs inp ty er wy wd rf lt2 ln2 th tr mv fo sp wr td) _ := hP
      have hD : va_D A (MW G mh md nr nc pL pG pB pk bf hi sv ch hs inp ty er wy wd rf lt2 ln2 th tr mv fo sp wr td) := hD
      refine n_cmp_ge (tgt := 57) hx hb dX5_writesAll_12 (by decide) (by omega) (by omega) (fun c12 => ?_) (fun c12 => ?_)
      · skip
        refine lv_aload_n hx hb dX5_writesAll_57 rfl (lv_at hl 1 rfl) ?_
        refine lv_aload_n hx hb dX5_writesAll_58 rfl (lv_at hl 1 rfl) ?_
        refine va_get (D := G.1) (ci := 4) (v := .int (nI ln2)) (C := RX5) (T := TX5) (N := 21) hx hb hts in_X5 hown hK hP 0 rfl rfl 13 (by decide) (hts _ q1740) (fun _ h9 => h9) rfl dX5_writesAll_59 ?_
        refine callVi (As := [.int (nI ln2)]) (rest := []) (wc := (MW G mh md nr nc pL pG pB pk bf hi sv ch hs inp ty er wy wd rf lt2 ln2 th tr mv fo sp wr td)) (wr := ([] : va_W)) ⟨hx, hb, hml, hown, hts⟩ (m_X5_done l G mh md nr nc pL pG pB pk bf hi sv ch hs inp ty er wy wd rf lt2 ln2 th tr mv fo sp wr td (nI ln2) ) (cwV 1 hts (lw_V q1821 q1823 qs39 q105 q1824) rfl rfl rfl (by decide +kernel) ⟨Nat.le_of_ble_eq_true rfl, Nat.le_of_ble_eq_true rfl⟩) hK hZ hA hP hD hS [0, 1, 2, 3, 4, 5, 6, 7, 8, 9] [] rfl rfl (by decide) (by decide) (by decide) 0 4 rfl rfl rfl hl.1 (Nat.le_of_ble_eq_true rfl) ⟨Nat.le_of_ble_eq_true rfl, Nat.le_of_ble_eq_true rfl⟩ rfl dX5_writesAll_62 (fun r9 u9 H locs hw9 hP hD hS => ?_)
        subst hw9
        have hP : va_P G.1 CL (MW G mh md nr nc pL pG pB pk bf hi sv ch hs inp ty er wy wd rf lt2 ln2 (nI 0) tr mv fo sp wr td) _ := hP
        have hD : va_D A (MW G mh md nr nc pL pG pB pk bf hi sv ch hs inp ty er wy wd rf lt2 ln2 (nI 0) tr mv fo sp wr td) := hD
        subst hQ
        exact ret_i hx hb hr hlk (⟨lt2, ln2⟩) ⟨(congrArg nI (by rw [hT9.1, show i = nr * nc by omega])), (by rw [← show i = nr * nc by omega]; exact hT9)⟩ hP hD hS rfl dX5_writesAll_65
      · skip
        have hl9 := txN_len nc pL i
        have hl8 := hT9.1
        refine lv_iload_n hx hb dX5_writesAll_15 rfl (lv_at hl 0 rfl) ?_
        refine n_if_le (tgt := 36) hx hb dX5_writesAll_16 (by decide) (by omega) (fun c16 => ?_) (fun c16 => ?_)
        · skip
          refine lv_aload_n hx hb dX5_writesAll_36 rfl (lv_at hl 1 rfl) ?_
          refine lv_aload_n hx hb dX5_writesAll_37 rfl (lv_at hl 1 rfl) ?_
          refine va_get (D := G.1) (ci := 4) (v := .ref (md 0)) (C := RX5) (T := TX5) (N := 21) hx hb hts in_X5 hown hK hP 0 rfl rfl 0 (by decide) (hts _ q1727) (fun _ h9 => h9) rfl dX5_writesAll_38 ?_
          refine lv_iload_n hx hb dX5_writesAll_41 rfl (lv_at hl 2 rfl) ?_
          refine lv_iload_n hx hb dX5_writesAll_42 rfl (lv_at hl 0 rfl) ?_
          refine n_iadd hx hb dX5_writesAll_43 ?_
          refine r_iald hx hb hK hP 1 3 rfl rfl (by omega) (by decide) dX5_writesAll_44 ?_
          refine eq_i (y := nI (pL i - 97)) (gZ_c (by omega)) ?_
          refine callSi (As := [.int (nI (pL i - 97))]) (rest := [.ref mh]) (wc := ([] : va_W)) (wr := (MW G mh md nr nc pL pG pB pk bf hi sv ch hs inp ty er wy wd rf lt2 ln2 th tr mv fo sp wr td)) ⟨hx, hb, hml, hown, hts⟩ (m_X5_signOf l G (nI (pL i - 97)) (pL i) (show gk (pL i) = nI (pL i - 97) from if_neg (by have := hLR i (by omega); omega)) (Or.inr (hLR i (by omega)))) (va_cwS 1 hts (lw_S q1852 q1853 q105 q1854) rfl rfl rfl (by decide +kernel) ⟨Nat.le_of_ble_eq_true rfl, Nat.le_of_ble_eq_true rfl⟩) hK hZ hA hP hD hS [] [0, 1, 2, 3, 4, 5, 6, 7, 8, 9] rfl rfl (by decide) (by decide) (by decide) rfl hl.1 (Nat.le_of_ble_eq_true rfl) ⟨Nat.le_of_ble_eq_true rfl, Nat.le_of_ble_eq_true rfl⟩ rfl dX5_writesAll_45 (fun r9 u9 H locs hw9 hP hD hS => ?_)
          subst hw9
          have hP : va_P G.1 CL (MW G mh md nr nc pL pG pB pk bf hi sv ch hs inp ty er wy wd rf lt2 ln2 th tr mv fo sp wr td) _ := hP
          have hD : va_D A (MW G mh md nr nc pL pG pB pk bf hi sv ch hs inp ty er wy wd rf lt2 ln2 th tr mv fo sp wr td) := hD
          refine callVv (As := [.int (nI (pL i))]) (rest := []) (wc := (MW G mh md nr nc pL pG pB pk bf hi sv ch hs inp ty er wy wd rf lt2 ln2 th tr mv fo sp wr td)) (wr := ([] : va_W)) ⟨hx, hb, hml, hown, hts⟩ (m_X5_writes l G mh md nr nc pL pG pB pk bf hi sv ch hs inp ty er wy wd rf lt2 ln2 th tr mv fo sp wr td (pL i) (by have := hLR i (by omega); omega) (by first | assumption | omega)) (cwV 1 hts (lw_V q2089 q2091 qs79 q105 q2092) rfl rfl rfl (by decide +kernel) ⟨Nat.le_of_ble_eq_true rfl, Nat.le_of_ble_eq_true rfl⟩) hK hZ hA hP hD hS [0, 1, 2, 3, 4, 5, 6, 7, 8, 9] [] rfl rfl (by decide) (by decide) (by decide) 0 4 rfl rfl rfl hl.1 (Nat.le_of_ble_eq_true rfl) ⟨Nat.le_of_ble_eq_true rfl, Nat.le_of_ble_eq_true rfl⟩ rfl dX5_writesAll_48 (fun u9 H locs hw9 hP hD hS => ?_)
          have hP : va_P G.1 CL (MW G mh md nr nc pL pG pB pk bf hi sv ch hs inp ty er wy wd rf (va_up lt2 ln2 (pL i)) (ln2 + 1) th tr mv fo sp wr td) _ := hP
          have hD : va_D A (MW G mh md nr nc pL pG pB pk bf hi sv ch hs inp ty er wy wd rf (va_up lt2 ln2 (pL i)) (ln2 + 1) th tr mv fo sp wr td) := hD
          refine lv_iinc (v := nI (i + 1)) (lv' := [(2, .int (nI (i + 1))), (0, .ref mh), (1, .int (nI 14))]) hx hb dX5_writesAll_51 hl (k := 0) rfl (nI_add _ _) (by decide) rfl (fun ls hl => ?_)
          refine lv_goto (tgt := 7) hx hb dX5_writesAll_54 (by decide) ?_
          exact ih7 (i + 1) (va_up lt2 ln2 (pL i)) (ln2 + 1) (by omega) (by omega) (by rw [txN, if_neg (by omega), List.append_nil]; exact hT9.push) _ _ _ hP hD hS (lv_sub hl [0, 1, 2] rfl)
        · skip
          refine lv_iload_n hx hb dX5_writesAll_19 rfl (lv_at hl 0 rfl) ?_
          refine lv_aload_n hx hb dX5_writesAll_20 rfl (lv_at hl 1 rfl) ?_
          refine va_get (D := G.1) (ci := 4) (v := .ref (md 0)) (C := RX5) (T := TX5) (N := 21) hx hb hts in_X5 hown hK hP 0 rfl rfl 0 (by decide) (hts _ q1727) (fun _ h9 => h9) rfl dX5_writesAll_21 ?_
          refine lv_iconst (v := nI 1) hx hb dX5_writesAll_24 (by decide) ?_
          refine r_iald hx hb hK hP 1 3 rfl rfl (by omega) (by decide) dX5_writesAll_25 ?_
          refine eq_i (y := nI nc) rfl ?_
          refine n_irem hx hb (by omega) (by omega) (by omega) dX5_writesAll_26 ?_
          refine n_if_ne (tgt := 36) hx hb dX5_writesAll_27 (by decide) (by have := Nat.mod_lt i (show nc > 0 by omega); omega) (fun c27 => ?_) (fun c27 => ?_)
          · skip
            refine lv_aload_n hx hb dX5_writesAll_36 rfl (lv_at hl 1 rfl) ?_
            refine lv_aload_n hx hb dX5_writesAll_37 rfl (lv_at hl 1 rfl) ?_
            refine va_get (D := G.1) (ci := 4) (v := .ref (md 0)) (C := RX5) (T := TX5) (N := 21) hx hb hts in_X5 hown hK hP 0 rfl rfl 0 (by decide) (hts _ q1727) (fun _ h9 => h9) rfl dX5_writesAll_38 ?_
            refine lv_iload_n hx hb dX5_writesAll_41 rfl (lv_at hl 2 rfl) ?_
            refine lv_iload_n hx hb dX5_writesAll_42 rfl (lv_at hl 0 rfl) ?_
            refine n_iadd hx hb dX5_writesAll_43 ?_
            refine r_iald hx hb hK hP 1 3 rfl rfl (by omega) (by decide) dX5_writesAll_44 ?_
            refine eq_i (y := nI (pL i - 97)) (gZ_c (by omega)) ?_
            refine callSi (As := [.int (nI (pL i - 97))]) (rest := [.ref mh]) (wc := ([] : va_W)) (wr := (MW G mh md nr nc pL pG pB pk bf hi sv ch hs inp ty er wy wd rf lt2 ln2 th tr mv fo sp wr td)) ⟨hx, hb, hml, hown, hts⟩ (m_X5_signOf l G (nI (pL i - 97)) (pL i) (show gk (pL i) = nI (pL i - 97) from if_neg (by have := hLR i (by omega); omega)) (Or.inr (hLR i (by omega)))) (va_cwS 1 hts (lw_S q1852 q1853 q105 q1854) rfl rfl rfl (by decide +kernel) ⟨Nat.le_of_ble_eq_true rfl, Nat.le_of_ble_eq_true rfl⟩) hK hZ hA hP hD hS [] [0, 1, 2, 3, 4, 5, 6, 7, 8, 9] rfl rfl (by decide) (by decide) (by decide) rfl hl.1 (Nat.le_of_ble_eq_true rfl) ⟨Nat.le_of_ble_eq_true rfl, Nat.le_of_ble_eq_true rfl⟩ rfl dX5_writesAll_45 (fun r9 u9 H locs hw9 hP hD hS => ?_)
            subst hw9
            have hP : va_P G.1 CL (MW G mh md nr nc pL pG pB pk bf hi sv ch hs inp ty er wy wd rf lt2 ln2 th tr mv fo sp wr td) _ := hP
            have hD : va_D A (MW G mh md nr nc pL pG pB pk bf hi sv ch hs inp ty er wy wd rf lt2 ln2 th tr mv fo sp wr td) := hD
            refine callVv (As := [.int (nI (pL i))]) (rest := []) (wc := (MW G mh md nr nc pL pG pB pk bf hi sv ch hs inp ty er wy wd rf lt2 ln2 th tr mv fo sp wr td)) (wr := ([] : va_W)) ⟨hx, hb, hml, hown, hts⟩ (m_X5_writes l G mh md nr nc pL pG pB pk bf hi sv ch hs inp ty er wy wd rf lt2 ln2 th tr mv fo sp wr td (pL i) (by have := hLR i (by omega); omega) (by first | assumption | omega)) (cwV 1 hts (lw_V q2089 q2091 qs79 q105 q2092) rfl rfl rfl (by decide +kernel) ⟨Nat.le_of_ble_eq_true rfl, Nat.le_of_ble_eq_true rfl⟩) hK hZ hA hP hD hS [0, 1, 2, 3, 4, 5, 6, 7, 8, 9] [] rfl rfl (by decide) (by decide) (by decide) 0 4 rfl rfl rfl hl.1 (Nat.le_of_ble_eq_true rfl) ⟨Nat.le_of_ble_eq_true rfl, Nat.le_of_ble_eq_true rfl⟩ rfl dX5_writesAll_48 (fun u9 H locs hw9 hP hD hS => ?_)
            have hP : va_P G.1 CL (MW G mh md nr nc pL pG pB pk bf hi sv ch hs inp ty er wy wd rf (va_up lt2 ln2 (pL i)) (ln2 + 1) th tr mv fo sp wr td) _ := hP
            have hD : va_D A (MW G mh md nr nc pL pG pB pk bf hi sv ch hs inp ty er wy wd rf (va_up lt2 ln2 (pL i)) (ln2 + 1) th tr mv fo sp wr td) := hD
            refine lv_iinc (v := nI (i + 1)) (lv' := [(2, .int (nI (i + 1))), (0, .ref mh), (1, .int (nI 14))]) hx hb dX5_writesAll_51 hl (k := 0) rfl (nI_add _ _) (by decide) rfl (fun ls hl => ?_)
            refine lv_goto (tgt := 7) hx hb dX5_writesAll_54 (by decide) ?_
            exact ih7 (i + 1) (va_up lt2 ln2 (pL i)) (ln2 + 1) (by omega) (by omega) (by rw [txN, if_neg (by omega), List.append_nil]; exact hT9.push) _ _ _ hP hD hS (lv_sub hl [0, 1, 2] rfl)
          · skip
            refine lv_aload_n hx hb dX5_writesAll_30 rfl (lv_at hl 1 rfl) ?_
            refine lv_bipush (v := nI 47) hx hb dX5_writesAll_31 (by decide) ?_
            refine callVv (As := [.int (nI 47)]) (rest := []) (wc := (MW G mh md nr nc pL pG pB pk bf hi sv ch hs inp ty er wy wd rf lt2 ln2 th tr mv fo sp wr td)) (wr := ([] : va_W)) ⟨hx, hb, hml, hown, hts⟩ (m_X5_writes l G mh md nr nc pL pG pB pk bf hi sv ch hs inp ty er wy wd rf lt2 ln2 th tr mv fo sp wr td 47 (by decide) (by first | assumption | omega)) (cwV 1 hts (lw_V q2089 q2091 qs79 q105 q2092) rfl rfl rfl (by decide +kernel) ⟨Nat.le_of_ble_eq_true rfl, Nat.le_of_ble_eq_true rfl⟩) hK hZ hA hP hD hS [0, 1, 2, 3, 4, 5, 6, 7, 8, 9] [] rfl rfl (by decide) (by decide) (by decide) 0 4 rfl rfl rfl hl.1 (Nat.le_of_ble_eq_true rfl) ⟨Nat.le_of_ble_eq_true rfl, Nat.le_of_ble_eq_true rfl⟩ rfl dX5_writesAll_33 (fun u9 H locs hw9 hP hD hS => ?_)
            have hP : va_P G.1 CL (MW G mh md nr nc pL pG pB pk bf hi sv ch hs inp ty er wy wd rf (va_up lt2 ln2 47) (ln2 + 1) th tr mv fo sp wr td) _ := hP
            have hD : va_D A (MW G mh md nr nc pL pG pB pk bf hi sv ch hs inp ty er wy wd rf (va_up lt2 ln2 47) (ln2 + 1) th tr mv fo sp wr td) := hD
            refine lv_aload_n hx hb dX5_writesAll_36 rfl (lv_at hl 1 rfl) ?_
            refine lv_aload_n hx hb dX5_writesAll_37 rfl (lv_at hl 1 rfl) ?_
            refine va_get (D := G.1) (ci := 4) (v := .ref (md 0)) (C := RX5) (T := TX5) (N := 21) hx hb hts in_X5 hown hK hP 0 rfl rfl 0 (by decide) (hts _ q1727) (fun _ h9 => h9) rfl dX5_writesAll_38 ?_
            refine lv_iload_n hx hb dX5_writesAll_41 rfl (lv_at hl 2 rfl) ?_
            refine lv_iload_n hx hb dX5_writesAll_42 rfl (lv_at hl 0 rfl) ?_
            refine n_iadd hx hb dX5_writesAll_43 ?_
            refine r_iald hx hb hK hP 1 3 rfl rfl (by omega) (by decide) dX5_writesAll_44 ?_
            refine eq_i (y := nI (pL i - 97)) (gZ_c (by omega)) ?_
            refine callSi (As := [.int (nI (pL i - 97))]) (rest := [.ref mh]) (wc := ([] : va_W)) (wr := (MW G mh md nr nc pL pG pB pk bf hi sv ch hs inp ty er wy wd rf (va_up lt2 ln2 47) (ln2 + 1) th tr mv fo sp wr td)) ⟨hx, hb, hml, hown, hts⟩ (m_X5_signOf l G (nI (pL i - 97)) (pL i) (show gk (pL i) = nI (pL i - 97) from if_neg (by have := hLR i (by omega); omega)) (Or.inr (hLR i (by omega)))) (va_cwS 1 hts (lw_S q1852 q1853 q105 q1854) rfl rfl rfl (by decide +kernel) ⟨Nat.le_of_ble_eq_true rfl, Nat.le_of_ble_eq_true rfl⟩) hK hZ hA hP hD hS [] [0, 1, 2, 3, 4, 5, 6, 7, 8, 9] rfl rfl (by decide) (by decide) (by decide) rfl hl.1 (Nat.le_of_ble_eq_true rfl) ⟨Nat.le_of_ble_eq_true rfl, Nat.le_of_ble_eq_true rfl⟩ rfl dX5_writesAll_45 (fun r9 u9 H locs hw9 hP hD hS => ?_)
            subst hw9
            have hP : va_P G.1 CL (MW G mh md nr nc pL pG pB pk bf hi sv ch hs inp ty er wy wd rf (va_up lt2 ln2 47) (ln2 + 1) th tr mv fo sp wr td) _ := hP
            have hD : va_D A (MW G mh md nr nc pL pG pB pk bf hi sv ch hs inp ty er wy wd rf (va_up lt2 ln2 47) (ln2 + 1) th tr mv fo sp wr td) := hD
            refine callVv (As := [.int (nI (pL i))]) (rest := []) (wc := (MW G mh md nr nc pL pG pB pk bf hi sv ch hs inp ty er wy wd rf (va_up lt2 ln2 47) (ln2 + 1) th tr mv fo sp wr td)) (wr := ([] : va_W)) ⟨hx, hb, hml, hown, hts⟩ (m_X5_writes l G mh md nr nc pL pG pB pk bf hi sv ch hs inp ty er wy wd rf (va_up lt2 ln2 47) (ln2 + 1) th tr mv fo sp wr td (pL i) (by have := hLR i (by omega); omega) (by first | assumption | omega)) (cwV 1 hts (lw_V q2089 q2091 qs79 q105 q2092) rfl rfl rfl (by decide +kernel) ⟨Nat.le_of_ble_eq_true rfl, Nat.le_of_ble_eq_true rfl⟩) hK hZ hA hP hD hS [0, 1, 2, 3, 4, 5, 6, 7, 8, 9] [] rfl rfl (by decide) (by decide) (by decide) 0 4 rfl rfl rfl hl.1 (Nat.le_of_ble_eq_true rfl) ⟨Nat.le_of_ble_eq_true rfl, Nat.le_of_ble_eq_true rfl⟩ rfl dX5_writesAll_48 (fun u9 H locs hw9 hP hD hS => ?_)
            have hP : va_P G.1 CL (MW G mh md nr nc pL pG pB pk bf hi sv ch hs inp ty er wy wd rf (va_up (va_up lt2 ln2 47) (ln2 + 1) (pL i)) ((ln2 + 1) + 1) th tr mv fo sp wr td) _ := hP
            have hD : va_D A (MW G mh md nr nc pL pG pB pk bf hi sv ch hs inp ty er wy wd rf (va_up (va_up lt2 ln2 47) (ln2 + 1) (pL i)) ((ln2 + 1) + 1) th tr mv fo sp wr td) := hD
            refine lv_iinc (v := nI (i + 1)) (lv' := [(2, .int (nI (i + 1))), (0, .ref mh), (1, .int (nI 14))]) hx hb dX5_writesAll_51 hl (k := 0) rfl (nI_add _ _) (by decide) rfl (fun ls hl => ?_)
            refine lv_goto (tgt := 7) hx hb dX5_writesAll_54 (by decide) ?_
            exact ih7 (i + 1) (va_up (va_up lt2 ln2 47) (ln2 + 1) (pL i)) ((ln2 + 1) + 1) (by omega) (by omega) (by rw [txN, if_pos ⟨c16, c27⟩]; exact hT9.push.push) _ _ _ hP hD hS (lv_sub hl [0, 1, 2] rfl)
  exact lp7 _ 0 lt 0 (Nat.lt_succ_self _) (by omega) HoldT.nil _ _ _ hP hD hS (lv_sub hl [0, 1, 2] rfl)
set_option maxHeartbeats 4000000 in
set_option maxRecDepth 100000 in
theorem m_X5_writesAll__G (l : Launch) (G : GG) (mh : Nat) (md : Nat → Nat) (nr : Nat) (nc : Nat) (pL : Nat → Nat) (pG : Nat → Nat) (pB : Nat → Bool) (pk : Nat → Int32) (bf : Nat → Int32) (hi : Nat → Int32) (sv : Nat → Int32) (ch : Nat) (hs : Bool) (inp : Nat → Nat) (ty : Nat) (er : Int32) (wy : Int32) (wd : Int32) (rf : Bool) (lt : Nat → Nat) (ln : Nat) (th : Int32) (tr : Nat → Nat) (mv : Nat → Nat) (fo : Int32) (sp : Nat) (wr : Bool) (td : Nat → Int32) (hd : 2 ≤ nr ∧ nr ≤ 3 ∧ 2 ≤ nc ∧ nc ≤ 3) (hKR : ∀ q, q < nr * nc → pG q = 46 ∨ (97 ≤ pG q ∧ pG q ≤ 108)) : MM l G yX5_writesAll cX5_writesAll 3 (some .int) ⟨1, 0, 0, 21⟩ [.ref mh, .int (nI 23)] (MW G mh md nr nc pL pG pB pk bf hi sv ch hs inp ty er wy wd rf lt ln th tr mv fo sp wr td) (Qi_ G (fun (r : Int32) (u : (Nat → Nat) × (Nat)) => (r = nI ((txN nc pG (nr * nc)).length)) ∧ (HoldT (txN nc pG (nr * nc)) u.1 u.2)) (fun (u : (Nat → Nat) × (Nat)) => (MW G mh md nr nc pL pG pB pk bf hi sv ch hs inp ty er wy wd rf u.1 u.2 (nI 0) tr mv fo sp wr td))) := by
  refine MM.of (by decide) (Nat.le_of_ble_eq_true rfl) ?_
  intro p e s m args below meth cd A C hini hA hK hZ hP hD ls hl
  generalize hQ : MQ below ((Qi_ G (fun (r : Int32) (u : (Nat → Nat) × (Nat)) => (r = nI ((txN nc pG (nr * nc)).length)) ∧ (HoldT (txN nc pG (nr * nc)) u.1 u.2)) (fun (u : (Nat → Nat) × (Nat)) => (MW G mh md nr nc pL pG pB pk bf hi sv ch hs inp ty er wy wd rf u.1 u.2 (nI 0) tr mv fo sp wr td))) A) args s (⟨1, 0, 0, 21⟩ : Room).cells (⟨1, 0, 0, 21⟩ : Room).slots A = Q
  obtain ⟨hx, hb, hr, hts, hown, hlk, hml⟩ := C
  have hown : s.vm.findClass RX5 = some m.cls := hown
  have hS : va_S A s.heap s.heap [] := va_S.rf
  have hl : lv_has ls 3 [(0, .ref mh), (1, .int (nI 23))] := hl
  have hmu := dm_mul hd
  refine lv_aload_n hx hb dX5_writesAll_0 rfl (lv_at hl 0 rfl) ?_
  refine lv_iconst (v := nI 0) hx hb dX5_writesAll_1 (by decide) ?_
  refine va_put (D := G.1) (ci := 4) (v := .int (nI 0)) (ty := .int) (C := RX5) (T := TX5) (N := 21) hx hb hts in_X5 tyX5 tyX5_ok nmX5 hown hK hP hD hS 0 rfl rfl 13 (by decide) (hts _ q1740) (fun _ h9 => h9) rfl (by decide +kernel) rfl rfl (Nat.le_of_ble_eq_true rfl) dX5_writesAll_2 (fun H locs hP hD hS => ?_)
  have hP : va_P G.1 CL (MW G mh md nr nc pL pG pB pk bf hi sv ch hs inp ty er wy wd rf lt 0 th tr mv fo sp wr td) _ := hP
  have hD : va_D A (MW G mh md nr nc pL pG pB pk bf hi sv ch hs inp ty er wy wd rf lt 0 th tr mv fo sp wr td) := hD
  refine lv_iconst (v := nI 0) hx hb dX5_writesAll_5 (by decide) ?_
  refine lv_istore_n (lv' := [(2, .int (nI 0)), (0, .ref mh), (1, .int (nI 23))]) hx hb dX5_writesAll_6 rfl hl (by decide) rfl (fun ls hl => ?_)
  have lp7 : ∀ (f : Nat) (i : Nat) (lt2 : Nat → Nat) (ln2 : Nat), nr * nc - i < f → (i ≤ nr * nc) → (HoldT (txN nc pG i) lt2 ln2) → ∀ (H : Heap) (locs : List Loc) (ls : Array Slot), va_P G.1 CL (MW G mh md nr nc pL pG pB pk bf hi sv ch hs inp ty er wy wd rf lt2 ln2 th tr mv fo sp wr td) H → va_D A (MW G mh md nr nc pL pG pB pk bf hi sv ch hs inp ty er wy wd rf lt2 ln2 th tr mv fo sp wr td) → va_S A s.heap H locs → lv_has ls 3 [(2, .int (nI i)), (0, .ref mh), (1, .int (nI 23))] → W p l e (⟨1, 0, 0, 21⟩ : Room) s m args below meth cd H locs 0 0 Q (F0 m 7 ls []) := by
    intro f
    induction f with
    | zero => intro i lt2 ln2 hf; exact absurd hf (Nat.not_lt_zero _)
    | succ f ih7 =>
      intro i lt2 ln2 hf hi9 hT9 H locs ls hP hD hS hl
      refine lv_iload_n hx hb dX5_writesAll_7 rfl (lv_at hl 0 rfl) ?_
      refine lv_aload_n hx hb dX5_writesAll_8 rfl (lv_at hl 1 rfl) ?_
      refine callVi (As := []) (rest := [.int (nI i)]) (wc := (MW G mh md nr nc pL pG pB pk bf hi sv ch hs inp ty er wy wd rf lt2 ln2 th tr mv fo sp wr td)) (wr := ([] : va_W)) ⟨hx, hb, hml, hown, hts⟩ (m_X5_places l G mh md nr nc pL pG pB pk bf hi sv ch hs inp ty er wy wd rf lt2 ln2 th tr mv fo sp wr td ) (cwV 0 hts (lw_V q1817 q1819 qs38 q105 q1820) rfl rfl rfl (by decide +kernel) ⟨Nat.le_of_ble_eq_true rfl, Nat.le_of_ble_eq_true rfl⟩) hK hZ hA hP hD hS [0, 1, 2, 3, 4, 5, 6, 7, 8, 9] [] rfl rfl (by decide) (by decide) (by decide) 0 4 rfl rfl rfl hl.1 (Nat.le_of_ble_eq_true rfl) ⟨Nat.le_of_ble_eq_true rfl, Nat.le_of_ble_eq_true rfl⟩ rfl dX5_writesAll_9 (fun r9 u9 H locs hw9 hP hD hS => ?_)
      subst hw9
      have hP : va_P G.1 CL (MW G mh md nr nc pL pG pB pk bf hi sv ch hs inp ty er wy wd rf lt2 ln2 th tr mv fo sp wr td) _ := hP
      have hD : va_D A (MW G mh md nr nc pL pG pB pk bf hi sv ch hs inp ty er wy wd rf lt2 ln2 th tr mv fo sp wr td) := hD
      refine n_cmp_ge (tgt := 57) hx hb dX5_writesAll_12 (by decide) (by omega) (by omega) (fun c12 => ?_) (fun c12 => ?_)
      · skip
        refine lv_aload_n hx hb dX5_writesAll_57 rfl (lv_at hl 1 rfl) ?_
        refine lv_aload_n hx hb dX5_writesAll_58 rfl (lv_at hl 1 rfl) ?_
        refine va_get (D := G.1) (ci := 4) (v := .int (nI ln2)) (C := RX5) (T := TX5) (N := 21) hx hb hts in_X5 hown hK hP 0 rfl rfl 13 (by decide) (hts _ q1740) (fun _ h9 => h9) rfl dX5_writesAll_59 ?_
        refine callVi (As := [.int (nI ln2)]) (rest := []) (wc := (MW G mh md nr nc pL pG pB pk bf hi sv ch hs inp ty er wy wd rf lt2 ln2 th tr mv fo sp wr td)) (wr := ([] : va_W)) ⟨hx, hb, hml, hown, hts⟩ (m_X5_done l G mh md nr nc pL pG pB pk bf hi sv ch hs inp ty er wy wd rf lt2 ln2 th tr mv fo sp wr td (nI ln2) ) (cwV 1 hts (lw_V q1821 q1823 qs39 q105 q1824) rfl rfl rfl (by decide +kernel) ⟨Nat.le_of_ble_eq_true rfl, Nat.le_of_ble_eq_true rfl⟩) hK hZ hA hP hD hS [0, 1, 2, 3, 4, 5, 6, 7, 8, 9] [] rfl rfl (by decide) (by decide) (by decide) 0 4 rfl rfl rfl hl.1 (Nat.le_of_ble_eq_true rfl) ⟨Nat.le_of_ble_eq_true rfl, Nat.le_of_ble_eq_true rfl⟩ rfl dX5_writesAll_62 (fun r9 u9 H locs hw9 hP hD hS => ?_)
        subst hw9
        have hP : va_P G.1 CL (MW G mh md nr nc pL pG pB pk bf hi sv ch hs inp ty er wy wd rf lt2 ln2 (nI 0) tr mv fo sp wr td) _ := hP
        have hD : va_D A (MW G mh md nr nc pL pG pB pk bf hi sv ch hs inp ty er wy wd rf lt2 ln2 (nI 0) tr mv fo sp wr td) := hD
        subst hQ
        exact ret_i hx hb hr hlk (⟨lt2, ln2⟩) ⟨(congrArg nI (by rw [hT9.1, show i = nr * nc by omega])), (by rw [← show i = nr * nc by omega]; exact hT9)⟩ hP hD hS rfl dX5_writesAll_65
      · skip
        have hl9 := txN_len nc pG i
        have hl8 := hT9.1
        refine lv_iload_n hx hb dX5_writesAll_15 rfl (lv_at hl 0 rfl) ?_
        refine n_if_le (tgt := 36) hx hb dX5_writesAll_16 (by decide) (by omega) (fun c16 => ?_) (fun c16 => ?_)
        · skip
          refine lv_aload_n hx hb dX5_writesAll_36 rfl (lv_at hl 1 rfl) ?_
          refine lv_aload_n hx hb dX5_writesAll_37 rfl (lv_at hl 1 rfl) ?_
          refine va_get (D := G.1) (ci := 4) (v := .ref (md 0)) (C := RX5) (T := TX5) (N := 21) hx hb hts in_X5 hown hK hP 0 rfl rfl 0 (by decide) (hts _ q1727) (fun _ h9 => h9) rfl dX5_writesAll_38 ?_
          refine lv_iload_n hx hb dX5_writesAll_41 rfl (lv_at hl 2 rfl) ?_
          refine lv_iload_n hx hb dX5_writesAll_42 rfl (lv_at hl 0 rfl) ?_
          refine n_iadd hx hb dX5_writesAll_43 ?_
          refine r_iald hx hb hK hP 1 3 rfl rfl (by omega) (by decide) dX5_writesAll_44 ?_
          refine eq_i (y := (gk (pG i))) (gZ_k (by omega)) ?_
          refine callSi (As := [.int (gk (pG i))]) (rest := [.ref mh]) (wc := ([] : va_W)) (wr := (MW G mh md nr nc pL pG pB pk bf hi sv ch hs inp ty er wy wd rf lt2 ln2 th tr mv fo sp wr td)) ⟨hx, hb, hml, hown, hts⟩ (m_X5_signOf l G (gk (pG i)) (pG i) rfl (hKR i (by omega))) (va_cwS 1 hts (lw_S q1852 q1853 q105 q1854) rfl rfl rfl (by decide +kernel) ⟨Nat.le_of_ble_eq_true rfl, Nat.le_of_ble_eq_true rfl⟩) hK hZ hA hP hD hS [] [0, 1, 2, 3, 4, 5, 6, 7, 8, 9] rfl rfl (by decide) (by decide) (by decide) rfl hl.1 (Nat.le_of_ble_eq_true rfl) ⟨Nat.le_of_ble_eq_true rfl, Nat.le_of_ble_eq_true rfl⟩ rfl dX5_writesAll_45 (fun r9 u9 H locs hw9 hP hD hS => ?_)
          subst hw9
          have hP : va_P G.1 CL (MW G mh md nr nc pL pG pB pk bf hi sv ch hs inp ty er wy wd rf lt2 ln2 th tr mv fo sp wr td) _ := hP
          have hD : va_D A (MW G mh md nr nc pL pG pB pk bf hi sv ch hs inp ty er wy wd rf lt2 ln2 th tr mv fo sp wr td) := hD
          refine callVv (As := [.int (nI (pG i))]) (rest := []) (wc := (MW G mh md nr nc pL pG pB pk bf hi sv ch hs inp ty er wy wd rf lt2 ln2 th tr mv fo sp wr td)) (wr := ([] : va_W)) ⟨hx, hb, hml, hown, hts⟩ (m_X5_writes l G mh md nr nc pL pG pB pk bf hi sv ch hs inp ty er wy wd rf lt2 ln2 th tr mv fo sp wr td (pG i) (by have := hKR i (by omega); omega) (by first | assumption | omega)) (cwV 1 hts (lw_V q2089 q2091 qs79 q105 q2092) rfl rfl rfl (by decide +kernel) ⟨Nat.le_of_ble_eq_true rfl, Nat.le_of_ble_eq_true rfl⟩) hK hZ hA hP hD hS [0, 1, 2, 3, 4, 5, 6, 7, 8, 9] [] rfl rfl (by decide) (by decide) (by decide) 0 4 rfl rfl rfl hl.1 (Nat.le_of_ble_eq_true rfl) ⟨Nat.le_of_ble_eq_true rfl, Nat.le_of_ble_eq_true rfl⟩ rfl dX5_writesAll_48 (fun u9 H locs hw9 hP hD hS => ?_)
          have hP : va_P G.1 CL (MW G mh md nr nc pL pG pB pk bf hi sv ch hs inp ty er wy wd rf (va_up lt2 ln2 (pG i)) (ln2 + 1) th tr mv fo sp wr td) _ := hP
          have hD : va_D A (MW G mh md nr nc pL pG pB pk bf hi sv ch hs inp ty er wy wd rf (va_up lt2 ln2 (pG i)) (ln2 + 1) th tr mv fo sp wr td) := hD
          refine lv_iinc (v := nI (i + 1)) (lv' := [(2, .int (nI (i + 1))), (0, .ref mh), (1, .int (nI 23))]) hx hb dX5_writesAll_51 hl (k := 0) rfl (nI_add _ _) (by decide) rfl (fun ls hl => ?_)
          refine lv_goto (tgt := 7) hx hb dX5_writesAll_54 (by decide) ?_
          exact ih7 (i + 1) (va_up lt2 ln2 (pG i)) (ln2 + 1) (by omega) (by omega) (by rw [txN, if_neg (by omega), List.append_nil]; exact hT9.push) _ _ _ hP hD hS (lv_sub hl [0, 1, 2] rfl)
        · skip
          refine lv_iload_n hx hb dX5_writesAll_19 rfl (lv_at hl 0 rfl) ?_
          refine lv_aload_n hx hb dX5_writesAll_20 rfl (lv_at hl 1 rfl) ?_
          refine va_get (D := G.1) (ci := 4) (v := .ref (md 0)) (C := RX5) (T := TX5) (N := 21) hx hb hts in_X5 hown hK hP 0 rfl rfl 0 (by decide) (hts _ q1727) (fun _ h9 => h9) rfl dX5_writesAll_21 ?_
          refine lv_iconst (v := nI 1) hx hb dX5_writesAll_24 (by decide) ?_
          refine r_iald hx hb hK hP 1 3 rfl rfl (by omega) (by decide) dX5_writesAll_25 ?_
          refine eq_i (y := nI nc) rfl ?_
          refine n_irem hx hb (by omega) (by omega) (by omega) dX5_writesAll_26 ?_
          refine n_if_ne (tgt := 36) hx hb dX5_writesAll_27 (by decide) (by have := Nat.mod_lt i (show nc > 0 by omega); omega) (fun c27 => ?_) (fun c27 => ?_)
          · skip
            refine lv_aload_n hx hb dX5_writesAll_36 rfl (lv_at hl 1 rfl) ?_
            refine lv_aload_n hx hb dX5_writesAll_37 rfl (lv_at hl 1 rfl) ?_
            refine va_get (D := G.1) (ci := 4) (v := .ref (md 0)) (C := RX5) (T := TX5) (N := 21) hx hb hts in_X5 hown hK hP 0 rfl rfl 0 (by decide) (hts _ q1727) (fun _ h9 => h9) rfl dX5_writesAll_38 ?_
            refine lv_iload_n hx hb dX5_writesAll_41 rfl (lv_at hl 2 rfl) ?_
            refine lv_iload_n hx hb dX5_writesAll_42 rfl (lv_at hl 0 rfl) ?_
            refine n_iadd hx hb dX5_writesAll_43 ?_
            refine r_iald hx hb hK hP 1 3 rfl rfl (by omega) (by decide) dX5_writesAll_44 ?_
            refine eq_i (y := (gk (pG i))) (gZ_k (by omega)) ?_
            refine callSi (As := [.int (gk (pG i))]) (rest := [.ref mh]) (wc := ([] : va_W)) (wr := (MW G mh md nr nc pL pG pB pk bf hi sv ch hs inp ty er wy wd rf lt2 ln2 th tr mv fo sp wr td)) ⟨hx, hb, hml, hown, hts⟩ (m_X5_signOf l G (gk (pG i)) (pG i) rfl (hKR i (by omega))) (va_cwS 1 hts (lw_S q1852 q1853 q105 q1854) rfl rfl rfl (by decide +kernel) ⟨Nat.le_of_ble_eq_true rfl, Nat.le_of_ble_eq_true rfl⟩) hK hZ hA hP hD hS [] [0, 1, 2, 3, 4, 5, 6, 7, 8, 9] rfl rfl (by decide) (by decide) (by decide) rfl hl.1 (Nat.le_of_ble_eq_true rfl) ⟨Nat.le_of_ble_eq_true rfl, Nat.le_of_ble_eq_true rfl⟩ rfl dX5_writesAll_45 (fun r9 u9 H locs hw9 hP hD hS => ?_)
            subst hw9
            have hP : va_P G.1 CL (MW G mh md nr nc pL pG pB pk bf hi sv ch hs inp ty er wy wd rf lt2 ln2 th tr mv fo sp wr td) _ := hP
            have hD : va_D A (MW G mh md nr nc pL pG pB pk bf hi sv ch hs inp ty er wy wd rf lt2 ln2 th tr mv fo sp wr td) := hD
            refine callVv (As := [.int (nI (pG i))]) (rest := []) (wc := (MW G mh md nr nc pL pG pB pk bf hi sv ch hs inp ty er wy wd rf lt2 ln2 th tr mv fo sp wr td)) (wr := ([] : va_W)) ⟨hx, hb, hml, hown, hts⟩ (m_X5_writes l G mh md nr nc pL pG pB pk bf hi sv ch hs inp ty er wy wd rf lt2 ln2 th tr mv fo sp wr td (pG i) (by have := hKR i (by omega); omega) (by first | assumption | omega)) (cwV 1 hts (lw_V q2089 q2091 qs79 q105 q2092) rfl rfl rfl (by decide +kernel) ⟨Nat.le_of_ble_eq_true rfl, Nat.le_of_ble_eq_true rfl⟩) hK hZ hA hP hD hS [0, 1, 2, 3, 4, 5, 6, 7, 8, 9] [] rfl rfl (by decide) (by decide) (by decide) 0 4 rfl rfl rfl hl.1 (Nat.le_of_ble_eq_true rfl) ⟨Nat.le_of_ble_eq_true rfl, Nat.le_of_ble_eq_true rfl⟩ rfl dX5_writesAll_48 (fun u9 H locs hw9 hP hD hS => ?_)
            have hP : va_P G.1 CL (MW G mh md nr nc pL pG pB pk bf hi sv ch hs inp ty er wy wd rf (va_up lt2 ln2 (pG i)) (ln2 + 1) th tr mv fo sp wr td) _ := hP
            have hD : va_D A (MW G mh md nr nc pL pG pB pk bf hi sv ch hs inp ty er wy wd rf (va_up lt2 ln2 (pG i)) (ln2 + 1) th tr mv fo sp wr td) := hD
            refine lv_iinc (v := nI (i + 1)) (lv' := [(2, .int (nI (i + 1))), (0, .ref mh), (1, .int (nI 23))]) hx hb dX5_writesAll_51 hl (k := 0) rfl (nI_add _ _) (by decide) rfl (fun ls hl => ?_)
            refine lv_goto (tgt := 7) hx hb dX5_writesAll_54 (by decide) ?_
            exact ih7 (i + 1) (va_up lt2 ln2 (pG i)) (ln2 + 1) (by omega) (by omega) (by rw [txN, if_neg (by omega), List.append_nil]; exact hT9.push) _ _ _ hP hD hS (lv_sub hl [0, 1, 2] rfl)
          · skip
            refine lv_aload_n hx hb dX5_writesAll_30 rfl (lv_at hl 1 rfl) ?_
            refine lv_bipush (v := nI 47) hx hb dX5_writesAll_31 (by decide) ?_
            refine callVv (As := [.int (nI 47)]) (rest := []) (wc := (MW G mh md nr nc pL pG pB pk bf hi sv ch hs inp ty er wy wd rf lt2 ln2 th tr mv fo sp wr td)) (wr := ([] : va_W)) ⟨hx, hb, hml, hown, hts⟩ (m_X5_writes l G mh md nr nc pL pG pB pk bf hi sv ch hs inp ty er wy wd rf lt2 ln2 th tr mv fo sp wr td 47 (by decide) (by first | assumption | omega)) (cwV 1 hts (lw_V q2089 q2091 qs79 q105 q2092) rfl rfl rfl (by decide +kernel) ⟨Nat.le_of_ble_eq_true rfl, Nat.le_of_ble_eq_true rfl⟩) hK hZ hA hP hD hS [0, 1, 2, 3, 4, 5, 6, 7, 8, 9] [] rfl rfl (by decide) (by decide) (by decide) 0 4 rfl rfl rfl hl.1 (Nat.le_of_ble_eq_true rfl) ⟨Nat.le_of_ble_eq_true rfl, Nat.le_of_ble_eq_true rfl⟩ rfl dX5_writesAll_33 (fun u9 H locs hw9 hP hD hS => ?_)
            have hP : va_P G.1 CL (MW G mh md nr nc pL pG pB pk bf hi sv ch hs inp ty er wy wd rf (va_up lt2 ln2 47) (ln2 + 1) th tr mv fo sp wr td) _ := hP
            have hD : va_D A (MW G mh md nr nc pL pG pB pk bf hi sv ch hs inp ty er wy wd rf (va_up lt2 ln2 47) (ln2 + 1) th tr mv fo sp wr td) := hD
            refine lv_aload_n hx hb dX5_writesAll_36 rfl (lv_at hl 1 rfl) ?_
            refine lv_aload_n hx hb dX5_writesAll_37 rfl (lv_at hl 1 rfl) ?_
            refine va_get (D := G.1) (ci := 4) (v := .ref (md 0)) (C := RX5) (T := TX5) (N := 21) hx hb hts in_X5 hown hK hP 0 rfl rfl 0 (by decide) (hts _ q1727) (fun _ h9 => h9) rfl dX5_writesAll_38 ?_
            refine lv_iload_n hx hb dX5_writesAll_41 rfl (lv_at hl 2 rfl) ?_
            refine lv_iload_n hx hb dX5_writesAll_42 rfl (lv_at hl 0 rfl) ?_
            refine n_iadd hx hb dX5_writesAll_43 ?_
            refine r_iald hx hb hK hP 1 3 rfl rfl (by omega) (by decide) dX5_writesAll_44 ?_
            refine eq_i (y := (gk (pG i))) (gZ_k (by omega)) ?_
            refine callSi (As := [.int (gk (pG i))]) (rest := [.ref mh]) (wc := ([] : va_W)) (wr := (MW G mh md nr nc pL pG pB pk bf hi sv ch hs inp ty er wy wd rf (va_up lt2 ln2 47) (ln2 + 1) th tr mv fo sp wr td)) ⟨hx, hb, hml, hown, hts⟩ (m_X5_signOf l G (gk (pG i)) (pG i) rfl (hKR i (by omega))) (va_cwS 1 hts (lw_S q1852 q1853 q105 q1854) rfl rfl rfl (by decide +kernel) ⟨Nat.le_of_ble_eq_true rfl, Nat.le_of_ble_eq_true rfl⟩) hK hZ hA hP hD hS [] [0, 1, 2, 3, 4, 5, 6, 7, 8, 9] rfl rfl (by decide) (by decide) (by decide) rfl hl.1 (Nat.le_of_ble_eq_true rfl) ⟨Nat.le_of_ble_eq_true rfl, Nat.le_of_ble_eq_true rfl⟩ rfl dX5_writesAll_45 (fun r9 u9 H locs hw9 hP hD hS => ?_)
            subst hw9
            have hP : va_P G.1 CL (MW G mh md nr nc pL pG pB pk bf hi sv ch hs inp ty er wy wd rf (va_up lt2 ln2 47) (ln2 + 1) th tr mv fo sp wr td) _ := hP
            have hD : va_D A (MW G mh md nr nc pL pG pB pk bf hi sv ch hs inp ty er wy wd rf (va_up lt2 ln2 47) (ln2 + 1) th tr mv fo sp wr td) := hD
            refine callVv (As := [.int (nI (pG i))]) (rest := []) (wc := (MW G mh md nr nc pL pG pB pk bf hi sv ch hs inp ty er wy wd rf (va_up lt2 ln2 47) (ln2 + 1) th tr mv fo sp wr td)) (wr := ([] : va_W)) ⟨hx, hb, hml, hown, hts⟩ (m_X5_writes l G mh md nr nc pL pG pB pk bf hi sv ch hs inp ty er wy wd rf (va_up lt2 ln2 47) (ln2 + 1) th tr mv fo sp wr td (pG i) (by have := hKR i (by omega); omega) (by first | assumption | omega)) (cwV 1 hts (lw_V q2089 q2091 qs79 q105 q2092) rfl rfl rfl (by decide +kernel) ⟨Nat.le_of_ble_eq_true rfl, Nat.le_of_ble_eq_true rfl⟩) hK hZ hA hP hD hS [0, 1, 2, 3, 4, 5, 6, 7, 8, 9] [] rfl rfl (by decide) (by decide) (by decide) 0 4 rfl rfl rfl hl.1 (Nat.le_of_ble_eq_true rfl) ⟨Nat.le_of_ble_eq_true rfl, Nat.le_of_ble_eq_true rfl⟩ rfl dX5_writesAll_48 (fun u9 H locs hw9 hP hD hS => ?_)
            have hP : va_P G.1 CL (MW G mh md nr nc pL pG pB pk bf hi sv ch hs inp ty er wy wd rf (va_up (va_up lt2 ln2 47) (ln2 + 1) (pG i)) ((ln2 + 1) + 1) th tr mv fo sp wr td) _ := hP
            have hD : va_D A (MW G mh md nr nc pL pG pB pk bf hi sv ch hs inp ty er wy wd rf (va_up (va_up lt2 ln2 47) (ln2 + 1) (pG i)) ((ln2 + 1) + 1) th tr mv fo sp wr td) := hD
            refine lv_iinc (v := nI (i + 1)) (lv' := [(2, .int (nI (i + 1))), (0, .ref mh), (1, .int (nI 23))]) hx hb dX5_writesAll_51 hl (k := 0) rfl (nI_add _ _) (by decide) rfl (fun ls hl => ?_)
            refine lv_goto (tgt := 7) hx hb dX5_writesAll_54 (by decide) ?_
            exact ih7 (i + 1) (va_up (va_up lt2 ln2 47) (ln2 + 1) (pG i)) ((ln2 + 1) + 1) (by omega) (by omega) (by rw [txN, if_pos ⟨c16, c27⟩]; exact hT9.push.push) _ _ _ hP hD hS (lv_sub hl [0, 1, 2] rfl)
  exact lp7 _ 0 lt 0 (Nat.lt_succ_self _) (by omega) HoldT.nil _ _ _ hP hD hS (lv_sub hl [0, 1, 2] rfl)
set_option maxHeartbeats 4000000 in
set_option maxRecDepth 100000 in
theorem m_X5_text (l : Launch) (G : GG) (mh : Nat) (md : Nat → Nat) (nr : Nat) (nc : Nat) (pL : Nat → Nat) (pG : Nat → Nat) (pB : Nat → Bool) (pk : Nat → Int32) (bf : Nat → Int32) (hi : Nat → Int32) (sv : Nat → Int32) (ch : Nat) (hs : Bool) (inp : Nat → Nat) (ty : Nat) (er : Int32) (wy : Int32) (wd : Int32) (rf : Bool) (lt : Nat → Nat) (ln : Nat) (th : Int32) (tr : Nat → Nat) (mv : Nat → Nat) (fo : Int32) (sp : Nat) (wr : Bool) (td : Nat → Int32) (hd : 2 ≤ nr ∧ nr ≤ 3 ∧ 2 ≤ nc ∧ nc ≤ 3) (hLR : ∀ q, q < nr * nc → 97 ≤ pL q ∧ pL q ≤ 108) : MM l G yX5_text cX5_text 1 (some .int) ⟨2, 0, 0, 43⟩ [.ref mh] (MW G mh md nr nc pL pG pB pk bf hi sv ch hs inp ty er wy wd rf lt ln th tr mv fo sp wr td) (Qi_ G (fun (r : Int32) (u : (Nat → Nat) × (Nat)) => (r = nI ((txN nc pL (nr * nc)).length)) ∧ (HoldT (txN nc pL (nr * nc)) u.1 u.2)) (fun (u : (Nat → Nat) × (Nat)) => (MW G mh md nr nc pL pG pB pk bf hi sv ch hs inp ty er wy wd rf u.1 u.2 (nI 0) tr mv fo sp wr td))) := by
  refine MM.of (by decide) (Nat.le_of_ble_eq_true rfl) ?_
  intro p e s m args below meth cd A C hini hA hK hZ hP hD ls hl
  generalize hQ : MQ below ((Qi_ G (fun (r : Int32) (u : (Nat → Nat) × (Nat)) => (r = nI ((txN nc pL (nr * nc)).length)) ∧ (HoldT (txN nc pL (nr * nc)) u.1 u.2)) (fun (u : (Nat → Nat) × (Nat)) => (MW G mh md nr nc pL pG pB pk bf hi sv ch hs inp ty er wy wd rf u.1 u.2 (nI 0) tr mv fo sp wr td))) A) args s (⟨2, 0, 0, 43⟩ : Room).cells (⟨2, 0, 0, 43⟩ : Room).slots A = Q
  obtain ⟨hx, hb, hr, hts, hown, hlk, hml⟩ := C
  have hown : s.vm.findClass RX5 = some m.cls := hown
  have hS : va_S A s.heap s.heap [] := va_S.rf
  have hl : lv_has ls 1 [(0, .ref mh)] := hl
  have hmu := dm_mul hd
  refine lv_aload_n hx hb dX5_text_0 rfl (lv_at hl 0 rfl) ?_
  refine lv_bipush (v := nI 14) hx hb dX5_text_1 (by decide) ?_
  refine callVi (As := [.int (nI 14)]) (rest := []) (wc := (MW G mh md nr nc pL pG pB pk bf hi sv ch hs inp ty er wy wd rf lt ln th tr mv fo sp wr td)) (wr := ([] : va_W)) ⟨hx, hb, hml, hown, hts⟩ (m_X5_writesAll__L l G mh md nr nc pL pG pB pk bf hi sv ch hs inp ty er wy wd rf lt ln th tr mv fo sp wr td (by first | assumption | omega) (by first | assumption | omega)) (cwV 1 hts (lw_V q2085 q2087 qs78 q105 q2088) rfl rfl rfl (by decide +kernel) ⟨Nat.le_of_ble_eq_true rfl, Nat.le_of_ble_eq_true rfl⟩) hK hZ hA hP hD hS [0, 1, 2, 3, 4, 5, 6, 7, 8, 9] [] rfl rfl (by decide) (by decide) (by decide) 0 4 rfl rfl rfl hl.1 (Nat.le_of_ble_eq_true rfl) ⟨Nat.le_of_ble_eq_true rfl, Nat.le_of_ble_eq_true rfl⟩ rfl dX5_text_3 (fun r9 u9 H locs hw9 hP hD hS => ?_)
  obtain ⟨lt1_1, ln1_1⟩ := u9
  obtain ⟨hr9, hw3⟩ := hw9
  subst hr9
  have hw3 : HoldT (txN nc pL (nr * nc)) lt1_1 ln1_1 := hw3
  have hP : va_P G.1 CL (MW G mh md nr nc pL pG pB pk bf hi sv ch hs inp ty er wy wd rf lt1_1 ln1_1 (nI 0) tr mv fo sp wr td) _ := hP
  have hD : va_D A (MW G mh md nr nc pL pG pB pk bf hi sv ch hs inp ty er wy wd rf lt1_1 ln1_1 (nI 0) tr mv fo sp wr td) := hD
  subst hQ
  exact ret_i hx hb hr hlk (⟨lt1_1, ln1_1⟩) ⟨rfl, hw3⟩ hP hD hS rfl dX5_text_6
set_option maxHeartbeats 4000000 in
set_option maxRecDepth 100000 in
theorem m_X5_goalText (l : Launch) (G : GG) (mh : Nat) (md : Nat → Nat) (nr : Nat) (nc : Nat) (pL : Nat → Nat) (pG : Nat → Nat) (pB : Nat → Bool) (pk : Nat → Int32) (bf : Nat → Int32) (hi : Nat → Int32) (sv : Nat → Int32) (ch : Nat) (hs : Bool) (inp : Nat → Nat) (ty : Nat) (er : Int32) (wy : Int32) (wd : Int32) (rf : Bool) (lt : Nat → Nat) (ln : Nat) (th : Int32) (tr : Nat → Nat) (mv : Nat → Nat) (fo : Int32) (sp : Nat) (wr : Bool) (td : Nat → Int32) (hd : 2 ≤ nr ∧ nr ≤ 3 ∧ 2 ≤ nc ∧ nc ≤ 3) (hKR : ∀ q, q < nr * nc → pG q = 46 ∨ (97 ≤ pG q ∧ pG q ≤ 108)) : MM l G yX5_goalText cX5_goalText 1 (some .int) ⟨2, 0, 0, 43⟩ [.ref mh] (MW G mh md nr nc pL pG pB pk bf hi sv ch hs inp ty er wy wd rf lt ln th tr mv fo sp wr td) (Qi_ G (fun (r : Int32) (u : (Nat → Nat) × (Nat)) => (r = nI ((txN nc pG (nr * nc)).length)) ∧ (HoldT (txN nc pG (nr * nc)) u.1 u.2)) (fun (u : (Nat → Nat) × (Nat)) => (MW G mh md nr nc pL pG pB pk bf hi sv ch hs inp ty er wy wd rf u.1 u.2 (nI 0) tr mv fo sp wr td))) := by
  refine MM.of (by decide) (Nat.le_of_ble_eq_true rfl) ?_
  intro p e s m args below meth cd A C hini hA hK hZ hP hD ls hl
  generalize hQ : MQ below ((Qi_ G (fun (r : Int32) (u : (Nat → Nat) × (Nat)) => (r = nI ((txN nc pG (nr * nc)).length)) ∧ (HoldT (txN nc pG (nr * nc)) u.1 u.2)) (fun (u : (Nat → Nat) × (Nat)) => (MW G mh md nr nc pL pG pB pk bf hi sv ch hs inp ty er wy wd rf u.1 u.2 (nI 0) tr mv fo sp wr td))) A) args s (⟨2, 0, 0, 43⟩ : Room).cells (⟨2, 0, 0, 43⟩ : Room).slots A = Q
  obtain ⟨hx, hb, hr, hts, hown, hlk, hml⟩ := C
  have hown : s.vm.findClass RX5 = some m.cls := hown
  have hS : va_S A s.heap s.heap [] := va_S.rf
  have hl : lv_has ls 1 [(0, .ref mh)] := hl
  have hmu := dm_mul hd
  refine lv_aload_n hx hb dX5_goalText_0 rfl (lv_at hl 0 rfl) ?_
  refine lv_bipush (v := nI 23) hx hb dX5_goalText_1 (by decide) ?_
  refine callVi (As := [.int (nI 23)]) (rest := []) (wc := (MW G mh md nr nc pL pG pB pk bf hi sv ch hs inp ty er wy wd rf lt ln th tr mv fo sp wr td)) (wr := ([] : va_W)) ⟨hx, hb, hml, hown, hts⟩ (m_X5_writesAll__G l G mh md nr nc pL pG pB pk bf hi sv ch hs inp ty er wy wd rf lt ln th tr mv fo sp wr td (by first | assumption | omega) (by first | assumption | omega)) (cwV 1 hts (lw_V q2085 q2087 qs78 q105 q2088) rfl rfl rfl (by decide +kernel) ⟨Nat.le_of_ble_eq_true rfl, Nat.le_of_ble_eq_true rfl⟩) hK hZ hA hP hD hS [0, 1, 2, 3, 4, 5, 6, 7, 8, 9] [] rfl rfl (by decide) (by decide) (by decide) 0 4 rfl rfl rfl hl.1 (Nat.le_of_ble_eq_true rfl) ⟨Nat.le_of_ble_eq_true rfl, Nat.le_of_ble_eq_true rfl⟩ rfl dX5_goalText_3 (fun r9 u9 H locs hw9 hP hD hS => ?_)
  obtain ⟨lt1_1, ln1_1⟩ := u9
  obtain ⟨hr9, hw3⟩ := hw9
  subst hr9
  have hw3 : HoldT (txN nc pG (nr * nc)) lt1_1 ln1_1 := hw3
  have hP : va_P G.1 CL (MW G mh md nr nc pL pG pB pk bf hi sv ch hs inp ty er wy wd rf lt1_1 ln1_1 (nI 0) tr mv fo sp wr td) _ := hP
  have hD : va_D A (MW G mh md nr nc pL pG pB pk bf hi sv ch hs inp ty er wy wd rf lt1_1 ln1_1 (nI 0) tr mv fo sp wr td) := hD
  subst hQ
  exact ret_i hx hb hr hlk (⟨lt1_1, ln1_1⟩) ⟨rfl, hw3⟩ hP hD hS rfl dX5_goalText_6
set_option maxHeartbeats 4000000 in
set_option maxRecDepth 100000 in
theorem m_X5_lineText (l : Launch) (G : GG) (mh : Nat) (md : Nat → Nat) (nr : Nat) (nc : Nat) (pL : Nat → Nat) (pG : Nat → Nat) (pB : Nat → Bool) (pk : Nat → Int32) (bf : Nat → Int32) (hi : Nat → Int32) (sv : Nat → Int32) (ch : Nat) (hs : Bool) (inp : Nat → Nat) (ty : Nat) (er : Int32) (wy : Int32) (wd : Int32) (rf : Bool) (lt : Nat → Nat) (ln : Nat) (th : Int32) (tr : Nat → Nat) (mv : Nat → Nat) (fo : Int32) (sp : Nat) (wr : Bool) (td : Nat → Int32) (pa : Int32) (xs : List Nat) (hd : 2 ≤ nr ∧ nr ≤ 3 ∧ 2 ≤ nc ∧ nc ≤ 3) (hLR : ∀ q, q < nr * nc → 97 ≤ pL q ∧ pL q ≤ 108) : MM l G yX5_lineText cX5_lineText 3 (some .int) ⟨4, 0, 0, 90⟩ [.ref mh, .int pa] (MW G mh md nr nc pL pG pB pk bf hi sv ch hs inp ty er wy wd rf lt ln th tr mv fo sp wr td) (Qi_ G (fun (r : Int32) (u : (Nat → Nat) × (Nat) × (Bool)) => (r = (if isIx pa (nr + nc) = true then nI (lineX nr nc pL pB (cl_ pa)).length else nI 0)) ∧ (HoldT xs lt ln → HoldT (if isIx pa (nr + nc) = true then (lineX nr nc pL pB (cl_ pa)) else xs) u.1 u.2.1)) (fun (u : (Nat → Nat) × (Nat) × (Bool)) => (MW G mh md nr nc pL pG pB pk bf hi sv ch hs inp ty er wy wd u.2.2 u.1 u.2.1 (if isIx pa (nr + nc) = true then nI 0 else nI 1) tr mv fo sp wr td))) := by
  refine MM.of (by decide) (Nat.le_of_ble_eq_true rfl) ?_
  intro p e s m args below meth cd A C hini hA hK hZ hP hD ls hl
  generalize hQ : MQ below ((Qi_ G (fun (r : Int32) (u : (Nat → Nat) × (Nat) × (Bool)) => (r = (if isIx pa (nr + nc) = true then nI (lineX nr nc pL pB (cl_ pa)).length else nI 0)) ∧ (HoldT xs lt ln → HoldT (if isIx pa (nr + nc) = true then (lineX nr nc pL pB (cl_ pa)) else xs) u.1 u.2.1)) (fun (u : (Nat → Nat) × (Nat) × (Bool)) => (MW G mh md nr nc pL pG pB pk bf hi sv ch hs inp ty er wy wd u.2.2 u.1 u.2.1 (if isIx pa (nr + nc) = true then nI 0 else nI 1) tr mv fo sp wr td))) A) args s (⟨4, 0, 0, 90⟩ : Room).cells (⟨4, 0, 0, 90⟩ : Room).slots A = Q
  obtain ⟨hx, hb, hr, hts, hown, hlk, hml⟩ := C
  have hown : s.vm.findClass RX5 = some m.cls := hown
  have hS : va_S A s.heap s.heap [] := va_S.rf
  have hl : lv_has ls 3 [(0, .ref mh), (1, .int pa)] := hl
  have hmu := dm_mul hd
  refine lv_aload_n hx hb dX5_lineText_0 rfl (lv_at hl 0 rfl) ?_
  refine lv_iload_n hx hb dX5_lineText_1 rfl (lv_at hl 1 rfl) ?_
  refine callVi (As := [.int pa]) (rest := []) (wc := (MW G mh md nr nc pL pG pB pk bf hi sv ch hs inp ty er wy wd rf lt ln th tr mv fo sp wr td)) (wr := ([] : va_W)) ⟨hx, hb, hml, hown, hts⟩ (m_X5_isLine l G mh md nr nc pL pG pB pk bf hi sv ch hs inp ty er wy wd rf lt ln th tr mv fo sp wr td pa (by first | assumption | omega)) (cwV 1 hts (lw_V q1931 q1933 qs60 q105 q1934) rfl rfl rfl (by decide +kernel) ⟨Nat.le_of_ble_eq_true rfl, Nat.le_of_ble_eq_true rfl⟩) hK hZ hA hP hD hS [0, 1, 2, 3, 4, 5, 6, 7, 8, 9] [] rfl rfl (by decide) (by decide) (by decide) 0 4 rfl rfl rfl hl.1 (Nat.le_of_ble_eq_true rfl) ⟨Nat.le_of_ble_eq_true rfl, Nat.le_of_ble_eq_true rfl⟩ rfl dX5_lineText_2 (fun r9 u9 H locs hw9 hP hD hS => ?_)
  subst hw9
  have hP : va_P G.1 CL (MW G mh md nr nc pL pG pB pk bf hi sv ch hs inp ty er wy wd rf lt ln th tr mv fo sp wr td) _ := hP
  have hD : va_D A (MW G mh md nr nc pL pG pB pk bf hi sv ch hs inp ty er wy wd rf lt ln th tr mv fo sp wr td) := hD
  refine b_if_ne (tgt := 14) hx hb dX5_lineText_5 (by decide) (fun c5 => ?_) (fun c5 => ?_)
  · skip
    obtain ⟨ka, hka, rfl⟩ := isIx_t c5 (by omega)
    refine lv_aload_n hx hb dX5_lineText_14 rfl (lv_at hl 0 rfl) ?_
    have hz := szOf_lt (line := ka) hd
    refine lv_iconst (v := nI 0) hx hb dX5_lineText_15 (by decide) ?_
    refine va_put (D := G.1) (ci := 4) (v := .int (nI 0)) (ty := .int) (C := RX5) (T := TX5) (N := 21) hx hb hts in_X5 tyX5 tyX5_ok nmX5 hown hK hP hD hS 0 rfl rfl 13 (by decide) (hts _ q1740) (fun _ h9 => h9) rfl (by decide +kernel) rfl rfl (Nat.le_of_ble_eq_true rfl) dX5_lineText_16 (fun H locs hP hD hS => ?_)
    have hP : va_P G.1 CL (MW G mh md nr nc pL pG pB pk bf hi sv ch hs inp ty er wy wd rf lt 0 th tr mv fo sp wr td) _ := hP
    have hD : va_D A (MW G mh md nr nc pL pG pB pk bf hi sv ch hs inp ty er wy wd rf lt 0 th tr mv fo sp wr td) := hD
    refine lv_aload_n hx hb dX5_lineText_19 rfl (lv_at hl 0 rfl) ?_
    refine va_get (D := G.1) (ci := 4) (v := .ref (md 0)) (C := RX5) (T := TX5) (N := 21) hx hb hts in_X5 hown hK hP 0 rfl rfl 0 (by decide) (hts _ q1727) (fun _ h9 => h9) rfl dX5_lineText_20 ?_
    refine lv_bipush (v := nI 8) hx hb dX5_lineText_23 (by decide) ?_
    refine lv_iload_n hx hb dX5_lineText_25 rfl (lv_at hl 1 rfl) ?_
    refine n_iadd hx hb dX5_lineText_26 ?_
    refine r_iald hx hb hK hP 1 3 rfl rfl (by omega) (by decide) dX5_lineText_27 ?_
    refine eq_i (y := bI (pB ka)) (gZ_b (by omega)) ?_
    refine lv_iconst (v := nI 1) hx hb dX5_lineText_28 (by decide) ?_
    refine lv_icmp_ne (tgt := 38) hx hb dX5_lineText_29 (by decide) (fun c29 => ?_) (fun c29 => ?_)
    · skip
      refine lv_iconst (v := nI 0) hx hb dX5_lineText_38 (by decide) ?_
      refine lv_istore_n (lv' := [(2, .int (nI 0)), (0, .ref mh), (1, .int (nI ka))]) hx hb dX5_lineText_39 rfl hl (by decide) rfl (fun ls hl => ?_)
      have lp40 : ∀ (f : Nat) (k : Nat) (lt2 : Nat → Nat) (ln2 : Nat), szOf nr nc ka - k < f → (k ≤ szOf nr nc ka) → (HoldT ((if pB ka = true then [35] else []) ++ lsN (fun k => pL (plOn nr nc ka k)) k) lt2 ln2) → ∀ (H : Heap) (locs : List Loc) (ls : Array Slot), va_P G.1 CL (MW G mh md nr nc pL pG pB pk bf hi sv ch hs inp ty er wy wd rf lt2 ln2 th tr mv fo sp wr td) H → va_D A (MW G mh md nr nc pL pG pB pk bf hi sv ch hs inp ty er wy wd rf lt2 ln2 th tr mv fo sp wr td) → va_S A s.heap H locs → lv_has ls 3 [(2, .int (nI k)), (0, .ref mh), (1, .int (nI ka))] → W p l e (⟨4, 0, 0, 90⟩ : Room) s m args below meth cd H locs 0 0 Q (F0 m 40 ls []) := by
        intro f
        induction f with
        | zero => intro k lt2 ln2 hf; exact absurd hf (Nat.not_lt_zero _)
        | succ f ih40 =>
          intro k lt2 ln2 hf hk9 hT9 H locs ls hP hD hS hl
          refine lv_iload_n hx hb dX5_lineText_40 rfl (lv_at hl 0 rfl) ?_
          refine lv_aload_n hx hb dX5_lineText_41 rfl (lv_at hl 1 rfl) ?_
          refine lv_iload_n hx hb dX5_lineText_42 rfl (lv_at hl 2 rfl) ?_
          refine callVi (As := [.int (nI ka)]) (rest := [.int (nI k)]) (wc := (MW G mh md nr nc pL pG pB pk bf hi sv ch hs inp ty er wy wd rf lt2 ln2 th tr mv fo sp wr td)) (wr := ([] : va_W)) ⟨hx, hb, hml, hown, hts⟩ (m_X5_lengthOf l G mh md nr nc pL pG pB pk bf hi sv ch hs inp ty er wy wd rf lt2 ln2 th tr mv fo sp wr td ka (by first | assumption | omega) (by first | assumption | omega)) (cwV 1 hts (lw_V q2058 q2060 qs75 q105 q2061) rfl rfl rfl (by decide +kernel) ⟨Nat.le_of_ble_eq_true rfl, Nat.le_of_ble_eq_true rfl⟩) hK hZ hA hP hD hS [0, 1, 2, 3, 4, 5, 6, 7, 8, 9] [] rfl rfl (by decide) (by decide) (by decide) 0 4 rfl rfl rfl hl.1 (Nat.le_of_ble_eq_true rfl) ⟨Nat.le_of_ble_eq_true rfl, Nat.le_of_ble_eq_true rfl⟩ rfl dX5_lineText_43 (fun r9 u9 H locs hw9 hP hD hS => ?_)
          subst hw9
          have hP : va_P G.1 CL (MW G mh md nr nc pL pG pB pk bf hi sv ch hs inp ty er wy wd rf lt2 ln2 th tr mv fo sp wr td) _ := hP
          have hD : va_D A (MW G mh md nr nc pL pG pB pk bf hi sv ch hs inp ty er wy wd rf lt2 ln2 th tr mv fo sp wr td) := hD
          have hl9 := hT9.1
          rw [List.length_append, lsN_len] at hl9
          have hl8 : (if pB ka = true then [35] else ([] : List Nat)).length ≤ 1 := by split <;> simp
          refine n_cmp_ge (tgt := 76) hx hb dX5_lineText_46 (by decide) (by omega) (by omega) (fun c46 => ?_) (fun c46 => ?_)
          · skip
            have hks : k = szOf nr nc ka := by omega
            refine lv_aload_n hx hb dX5_lineText_76 rfl (lv_at hl 1 rfl) ?_
            refine lv_iload_n hx hb dX5_lineText_77 rfl (lv_at hl 2 rfl) ?_
            refine callVi (As := [.int (nI ka)]) (rest := []) (wc := (MW G mh md nr nc pL pG pB pk bf hi sv ch hs inp ty er wy wd rf lt2 ln2 th tr mv fo sp wr td)) (wr := ([] : va_W)) ⟨hx, hb, hml, hown, hts⟩ (m_X5_isSinging l G mh md nr nc pL pG pB pk bf hi sv ch hs inp ty er wy wd rf lt2 ln2 th tr mv fo sp wr td ka (by first | assumption | omega) (by first | assumption | omega) (by first | assumption | omega)) (cwV 1 hts (lw_V q2050 q2052 qs73 q105 q2053) rfl rfl rfl (by decide +kernel) ⟨Nat.le_of_ble_eq_true rfl, Nat.le_of_ble_eq_true rfl⟩) hK hZ hA hP hD hS [0, 1, 2, 3, 4, 5, 6, 7, 8, 9] [] rfl rfl (by decide) (by decide) (by decide) 0 4 rfl rfl rfl hl.1 (Nat.le_of_ble_eq_true rfl) ⟨Nat.le_of_ble_eq_true rfl, Nat.le_of_ble_eq_true rfl⟩ rfl dX5_lineText_78 (fun r9 u9 H locs hw9 hP hD hS => ?_)
            subst hw9
            have hP : va_P G.1 CL (MW G mh md nr nc pL pG pB pk bf hi sv ch hs inp ty er wy wd rf lt2 ln2 th tr mv fo sp wr td) _ := hP
            have hD : va_D A (MW G mh md nr nc pL pG pB pk bf hi sv ch hs inp ty er wy wd rf lt2 ln2 th tr mv fo sp wr td) := hD
            refine b_if_eq (tgt := 90) hx hb dX5_lineText_81 (by decide) (fun c81 => ?_) (fun c81 => ?_)
            · skip
              refine lv_aload_n hx hb dX5_lineText_90 rfl (lv_at hl 1 rfl) ?_
              refine lv_aload_n hx hb dX5_lineText_91 rfl (lv_at hl 1 rfl) ?_
              refine va_get (D := G.1) (ci := 4) (v := .int (nI ln2)) (C := RX5) (T := TX5) (N := 21) hx hb hts in_X5 hown hK hP 0 rfl rfl 13 (by decide) (hts _ q1740) (fun _ h9 => h9) rfl dX5_lineText_92 ?_
              refine callVi (As := [.int (nI ln2)]) (rest := []) (wc := (MW G mh md nr nc pL pG pB pk bf hi sv ch hs inp ty er wy wd rf lt2 ln2 th tr mv fo sp wr td)) (wr := ([] : va_W)) ⟨hx, hb, hml, hown, hts⟩ (m_X5_done l G mh md nr nc pL pG pB pk bf hi sv ch hs inp ty er wy wd rf lt2 ln2 th tr mv fo sp wr td (nI ln2) ) (cwV 1 hts (lw_V q1821 q1823 qs39 q105 q1824) rfl rfl rfl (by decide +kernel) ⟨Nat.le_of_ble_eq_true rfl, Nat.le_of_ble_eq_true rfl⟩) hK hZ hA hP hD hS [0, 1, 2, 3, 4, 5, 6, 7, 8, 9] [] rfl rfl (by decide) (by decide) (by decide) 0 4 rfl rfl rfl hl.1 (Nat.le_of_ble_eq_true rfl) ⟨Nat.le_of_ble_eq_true rfl, Nat.le_of_ble_eq_true rfl⟩ rfl dX5_lineText_95 (fun r9 u9 H locs hw9 hP hD hS => ?_)
              subst hw9
              have hP : va_P G.1 CL (MW G mh md nr nc pL pG pB pk bf hi sv ch hs inp ty er wy wd rf lt2 ln2 (nI 0) tr mv fo sp wr td) _ := hP
              have hD : va_D A (MW G mh md nr nc pL pG pB pk bf hi sv ch hs inp ty er wy wd rf lt2 ln2 (nI 0) tr mv fo sp wr td) := hD
              have e_th : (nI 0) = (if isIx (nI ka) (nr + nc) = true then nI 0 else nI 1) := (if_pos c5).symm
              rw [e_th] at hP hD
              subst hQ
              exact ret_i hx hb hr hlk (⟨lt2, ln2, rf⟩) ⟨(by rw [if_pos c5, cl_n (by omega), lineX, if_neg (show ¬ snN nr nc pL ka = true by rw [c81]; decide), List.append_nil, ← hks]; exact congrArg nI hT9.1), (fun _ => by rw [if_pos c5, cl_n (by omega), lineX, if_neg (show ¬ snN nr nc pL ka = true by rw [c81]; decide), List.append_nil, ← hks]; exact hT9)⟩ hP hD hS rfl dX5_lineText_98
            · skip
              have hl9 := hT9.1
              rw [List.length_append, lsN_len] at hl9
              have hl8 : (if pB ka = true then [35] else ([] : List Nat)).length ≤ 1 := by split <;> simp
              refine lv_aload_n hx hb dX5_lineText_84 rfl (lv_at hl 1 rfl) ?_
              refine lv_bipush (v := nI 33) hx hb dX5_lineText_85 (by decide) ?_
              refine callVv (As := [.int (nI 33)]) (rest := []) (wc := (MW G mh md nr nc pL pG pB pk bf hi sv ch hs inp ty er wy wd rf lt2 ln2 th tr mv fo sp wr td)) (wr := ([] : va_W)) ⟨hx, hb, hml, hown, hts⟩ (m_X5_writes l G mh md nr nc pL pG pB pk bf hi sv ch hs inp ty er wy wd rf lt2 ln2 th tr mv fo sp wr td 33 (by first | assumption | omega) (by first | assumption | omega)) (cwV 1 hts (lw_V q2089 q2091 qs79 q105 q2092) rfl rfl rfl (by decide +kernel) ⟨Nat.le_of_ble_eq_true rfl, Nat.le_of_ble_eq_true rfl⟩) hK hZ hA hP hD hS [0, 1, 2, 3, 4, 5, 6, 7, 8, 9] [] rfl rfl (by decide) (by decide) (by decide) 0 4 rfl rfl rfl hl.1 (Nat.le_of_ble_eq_true rfl) ⟨Nat.le_of_ble_eq_true rfl, Nat.le_of_ble_eq_true rfl⟩ rfl dX5_lineText_87 (fun u9 H locs hw9 hP hD hS => ?_)
              have hP : va_P G.1 CL (MW G mh md nr nc pL pG pB pk bf hi sv ch hs inp ty er wy wd rf (va_up lt2 ln2 33) (ln2 + 1) th tr mv fo sp wr td) _ := hP
              have hD : va_D A (MW G mh md nr nc pL pG pB pk bf hi sv ch hs inp ty er wy wd rf (va_up lt2 ln2 33) (ln2 + 1) th tr mv fo sp wr td) := hD
              refine lv_aload_n hx hb dX5_lineText_90 rfl (lv_at hl 1 rfl) ?_
              refine lv_aload_n hx hb dX5_lineText_91 rfl (lv_at hl 1 rfl) ?_
              refine va_get (D := G.1) (ci := 4) (v := .int (nI (ln2 + 1))) (C := RX5) (T := TX5) (N := 21) hx hb hts in_X5 hown hK hP 0 rfl rfl 13 (by decide) (hts _ q1740) (fun _ h9 => h9) rfl dX5_lineText_92 ?_
              refine callVi (As := [.int (nI (ln2 + 1))]) (rest := []) (wc := (MW G mh md nr nc pL pG pB pk bf hi sv ch hs inp ty er wy wd rf (va_up lt2 ln2 33) (ln2 + 1) th tr mv fo sp wr td)) (wr := ([] : va_W)) ⟨hx, hb, hml, hown, hts⟩ (m_X5_done l G mh md nr nc pL pG pB pk bf hi sv ch hs inp ty er wy wd rf (va_up lt2 ln2 33) (ln2 + 1) th tr mv fo sp wr td (nI (ln2 + 1)) ) (cwV 1 hts (lw_V q1821 q1823 qs39 q105 q1824) rfl rfl rfl (by decide +kernel) ⟨Nat.le_of_ble_eq_true rfl, Nat.le_of_ble_eq_true rfl⟩) hK hZ hA hP hD hS [0, 1, 2, 3, 4, 5, 6, 7, 8, 9] [] rfl rfl (by decide) (by decide) (by decide) 0 4 rfl rfl rfl hl.1 (Nat.le_of_ble_eq_true rfl) ⟨Nat.le_of_ble_eq_true rfl, Nat.le_of_ble_eq_true rfl⟩ rfl dX5_lineText_95 (fun r9 u9 H locs hw9 hP hD hS => ?_)
              subst hw9
              have hP : va_P G.1 CL (MW G mh md nr nc pL pG pB pk bf hi sv ch hs inp ty er wy wd rf (va_up lt2 ln2 33) (ln2 + 1) (nI 0) tr mv fo sp wr td) _ := hP
              have hD : va_D A (MW G mh md nr nc pL pG pB pk bf hi sv ch hs inp ty er wy wd rf (va_up lt2 ln2 33) (ln2 + 1) (nI 0) tr mv fo sp wr td) := hD
              have e_th : (nI 0) = (if isIx (nI ka) (nr + nc) = true then nI 0 else nI 1) := (if_pos c5).symm
              rw [e_th] at hP hD
              subst hQ
              exact ret_i hx hb hr hlk (⟨(va_up lt2 ln2 33), (ln2 + 1), rf⟩) ⟨(by rw [if_pos c5, cl_n (by omega), lineX, if_pos c81, ← hks]; exact congrArg nI (HoldT.push hT9).1), (fun _ => by rw [if_pos c5, cl_n (by omega), lineX, if_pos c81, ← hks]; exact HoldT.push hT9)⟩ hP hD hS rfl dX5_lineText_98
          · skip
            have hpl := plOn_lt hd hka (show k < szOf nr nc ka by omega)
            have hlr := hLR _ hpl.1
            refine lv_aload_n hx hb dX5_lineText_49 rfl (lv_at hl 1 rfl) ?_
            refine lv_aload_n hx hb dX5_lineText_50 rfl (lv_at hl 1 rfl) ?_
            refine va_get (D := G.1) (ci := 4) (v := .ref (md 0)) (C := RX5) (T := TX5) (N := 21) hx hb hts in_X5 hown hK hP 0 rfl rfl 0 (by decide) (hts _ q1727) (fun _ h9 => h9) rfl dX5_lineText_51 ?_
            refine lv_bipush (v := nI 14) hx hb dX5_lineText_54 (by decide) ?_
            refine lv_aload_n hx hb dX5_lineText_56 rfl (lv_at hl 1 rfl) ?_
            refine lv_iload_n hx hb dX5_lineText_57 rfl (lv_at hl 2 rfl) ?_
            refine lv_iload_n hx hb dX5_lineText_58 rfl (lv_at hl 0 rfl) ?_
            refine callVi (As := [.int (nI ka), .int (nI k)]) (rest := [.int (nI 14), .ref (md 0), .ref mh]) (wc := (MW G mh md nr nc pL pG pB pk bf hi sv ch hs inp ty er wy wd rf lt2 ln2 th tr mv fo sp wr td)) (wr := ([] : va_W)) ⟨hx, hb, hml, hown, hts⟩ (m_X5_placeOn l G mh md nr nc pL pG pB pk bf hi sv ch hs inp ty er wy wd rf lt2 ln2 th tr mv fo sp wr td ka k (by first | assumption | omega) (by first | assumption | omega)) (cwV 2 hts (lw_V q2066 q2068 qs77 q105 q2069) rfl rfl rfl (by decide +kernel) ⟨Nat.le_of_ble_eq_true rfl, Nat.le_of_ble_eq_true rfl⟩) hK hZ hA hP hD hS [0, 1, 2, 3, 4, 5, 6, 7, 8, 9] [] rfl rfl (by decide) (by decide) (by decide) 0 4 rfl rfl rfl hl.1 (Nat.le_of_ble_eq_true rfl) ⟨Nat.le_of_ble_eq_true rfl, Nat.le_of_ble_eq_true rfl⟩ rfl dX5_lineText_59 (fun r9 u9 H locs hw9 hP hD hS => ?_)
            subst hw9
            have hP : va_P G.1 CL (MW G mh md nr nc pL pG pB pk bf hi sv ch hs inp ty er wy wd rf lt2 ln2 th tr mv fo sp wr td) _ := hP
            have hD : va_D A (MW G mh md nr nc pL pG pB pk bf hi sv ch hs inp ty er wy wd rf lt2 ln2 th tr mv fo sp wr td) := hD
            refine n_iadd hx hb dX5_lineText_62 ?_
            refine r_iald hx hb hK hP 1 3 rfl rfl (by omega) (by decide) dX5_lineText_63 ?_
            refine eq_i (y := nI (pL (plOn nr nc ka k) - 97)) (gZ_c (by omega)) ?_
            refine callSi (As := [.int (nI (pL (plOn nr nc ka k) - 97))]) (rest := [.ref mh]) (wc := ([] : va_W)) (wr := (MW G mh md nr nc pL pG pB pk bf hi sv ch hs inp ty er wy wd rf lt2 ln2 th tr mv fo sp wr td)) ⟨hx, hb, hml, hown, hts⟩ (m_X5_signOf l G (nI (pL (plOn nr nc ka k) - 97)) (pL (plOn nr nc ka k)) (show gk (pL (plOn nr nc ka k)) = nI (pL (plOn nr nc ka k) - 97) from if_neg (by omega)) (Or.inr hlr)) (va_cwS 1 hts (lw_S q1852 q1853 q105 q1854) rfl rfl rfl (by decide +kernel) ⟨Nat.le_of_ble_eq_true rfl, Nat.le_of_ble_eq_true rfl⟩) hK hZ hA hP hD hS [] [0, 1, 2, 3, 4, 5, 6, 7, 8, 9] rfl rfl (by decide) (by decide) (by decide) rfl hl.1 (Nat.le_of_ble_eq_true rfl) ⟨Nat.le_of_ble_eq_true rfl, Nat.le_of_ble_eq_true rfl⟩ rfl dX5_lineText_64 (fun r9 u9 H locs hw9 hP hD hS => ?_)
            subst hw9
            have hP : va_P G.1 CL (MW G mh md nr nc pL pG pB pk bf hi sv ch hs inp ty er wy wd rf lt2 ln2 th tr mv fo sp wr td) _ := hP
            have hD : va_D A (MW G mh md nr nc pL pG pB pk bf hi sv ch hs inp ty er wy wd rf lt2 ln2 th tr mv fo sp wr td) := hD
            refine callVv (As := [.int (nI (pL (plOn nr nc ka k)))]) (rest := []) (wc := (MW G mh md nr nc pL pG pB pk bf hi sv ch hs inp ty er wy wd rf lt2 ln2 th tr mv fo sp wr td)) (wr := ([] : va_W)) ⟨hx, hb, hml, hown, hts⟩ (m_X5_writes l G mh md nr nc pL pG pB pk bf hi sv ch hs inp ty er wy wd rf lt2 ln2 th tr mv fo sp wr td (pL (plOn nr nc ka k)) (by first | assumption | omega) (by first | assumption | omega)) (cwV 1 hts (lw_V q2089 q2091 qs79 q105 q2092) rfl rfl rfl (by decide +kernel) ⟨Nat.le_of_ble_eq_true rfl, Nat.le_of_ble_eq_true rfl⟩) hK hZ hA hP hD hS [0, 1, 2, 3, 4, 5, 6, 7, 8, 9] [] rfl rfl (by decide) (by decide) (by decide) 0 4 rfl rfl rfl hl.1 (Nat.le_of_ble_eq_true rfl) ⟨Nat.le_of_ble_eq_true rfl, Nat.le_of_ble_eq_true rfl⟩ rfl dX5_lineText_67 (fun u9 H locs hw9 hP hD hS => ?_)
            have hP : va_P G.1 CL (MW G mh md nr nc pL pG pB pk bf hi sv ch hs inp ty er wy wd rf (va_up lt2 ln2 (pL (plOn nr nc ka k))) (ln2 + 1) th tr mv fo sp wr td) _ := hP
            have hD : va_D A (MW G mh md nr nc pL pG pB pk bf hi sv ch hs inp ty er wy wd rf (va_up lt2 ln2 (pL (plOn nr nc ka k))) (ln2 + 1) th tr mv fo sp wr td) := hD
            refine lv_iinc (v := nI (k + 1)) (lv' := [(2, .int (nI (k + 1))), (0, .ref mh), (1, .int (nI ka))]) hx hb dX5_lineText_70 hl (k := 0) rfl (nI_add _ _) (by decide) rfl (fun ls hl => ?_)
            refine lv_goto (tgt := 40) hx hb dX5_lineText_73 (by decide) ?_
            exact ih40 (k + 1) (va_up lt2 ln2 (pL (plOn nr nc ka k))) (ln2 + 1) (by omega) (by omega) (by rw [lsN, ← List.append_assoc]; exact hT9.push) _ _ _ hP hD hS (lv_sub hl [0, 1, 2] rfl)
      exact lp40 _ 0 lt 0 (Nat.lt_succ_self _) (by omega) (by first | (rw [if_pos (bI_inj.mp c29)]; exact HoldT.nil.push) | (rw [if_neg (fun z => c29 (by rw [z]; rfl))]; exact HoldT.nil)) _ _ _ hP hD hS (lv_sub hl [0, 1, 2] rfl)
    · skip
      refine lv_aload_n hx hb dX5_lineText_32 rfl (lv_at hl 0 rfl) ?_
      refine lv_bipush (v := nI 35) hx hb dX5_lineText_33 (by decide) ?_
      refine callVv (As := [.int (nI 35)]) (rest := []) (wc := (MW G mh md nr nc pL pG pB pk bf hi sv ch hs inp ty er wy wd rf lt 0 th tr mv fo sp wr td)) (wr := ([] : va_W)) ⟨hx, hb, hml, hown, hts⟩ (m_X5_writes l G mh md nr nc pL pG pB pk bf hi sv ch hs inp ty er wy wd rf lt 0 th tr mv fo sp wr td 35 (by first | assumption | omega) (by first | assumption | omega)) (cwV 1 hts (lw_V q2089 q2091 qs79 q105 q2092) rfl rfl rfl (by decide +kernel) ⟨Nat.le_of_ble_eq_true rfl, Nat.le_of_ble_eq_true rfl⟩) hK hZ hA hP hD hS [0, 1, 2, 3, 4, 5, 6, 7, 8, 9] [] rfl rfl (by decide) (by decide) (by decide) 0 4 rfl rfl rfl hl.1 (Nat.le_of_ble_eq_true rfl) ⟨Nat.le_of_ble_eq_true rfl, Nat.le_of_ble_eq_true rfl⟩ rfl dX5_lineText_35 (fun u9 H locs hw9 hP hD hS => ?_)
      have hP : va_P G.1 CL (MW G mh md nr nc pL pG pB pk bf hi sv ch hs inp ty er wy wd rf (va_up lt 0 35) (0 + 1) th tr mv fo sp wr td) _ := hP
      have hD : va_D A (MW G mh md nr nc pL pG pB pk bf hi sv ch hs inp ty er wy wd rf (va_up lt 0 35) (0 + 1) th tr mv fo sp wr td) := hD
      refine lv_iconst (v := nI 0) hx hb dX5_lineText_38 (by decide) ?_
      refine lv_istore_n (lv' := [(2, .int (nI 0)), (0, .ref mh), (1, .int (nI ka))]) hx hb dX5_lineText_39 rfl hl (by decide) rfl (fun ls hl => ?_)
      have lp40 : ∀ (f : Nat) (k : Nat) (lt2 : Nat → Nat) (ln2 : Nat), szOf nr nc ka - k < f → (k ≤ szOf nr nc ka) → (HoldT ((if pB ka = true then [35] else []) ++ lsN (fun k => pL (plOn nr nc ka k)) k) lt2 ln2) → ∀ (H : Heap) (locs : List Loc) (ls : Array Slot), va_P G.1 CL (MW G mh md nr nc pL pG pB pk bf hi sv ch hs inp ty er wy wd rf lt2 ln2 th tr mv fo sp wr td) H → va_D A (MW G mh md nr nc pL pG pB pk bf hi sv ch hs inp ty er wy wd rf lt2 ln2 th tr mv fo sp wr td) → va_S A s.heap H locs → lv_has ls 3 [(2, .int (nI k)), (0, .ref mh), (1, .int (nI ka))] → W p l e (⟨4, 0, 0, 90⟩ : Room) s m args below meth cd H locs 0 0 Q (F0 m 40 ls []) := by
        intro f
        induction f with
        | zero => intro k lt2 ln2 hf; exact absurd hf (Nat.not_lt_zero _)
        | succ f ih40 =>
          intro k lt2 ln2 hf hk9 hT9 H locs ls hP hD hS hl
          refine lv_iload_n hx hb dX5_lineText_40 rfl (lv_at hl 0 rfl) ?_
          refine lv_aload_n hx hb dX5_lineText_41 rfl (lv_at hl 1 rfl) ?_
          refine lv_iload_n hx hb dX5_lineText_42 rfl (lv_at hl 2 rfl) ?_
          refine callVi (As := [.int (nI ka)]) (rest := [.int (nI k)]) (wc := (MW G mh md nr nc pL pG pB pk bf hi sv ch hs inp ty er wy wd rf lt2 ln2 th tr mv fo sp wr td)) (wr := ([] : va_W)) ⟨hx, hb, hml, hown, hts⟩ (m_X5_lengthOf l G mh md nr nc pL pG pB pk bf hi sv ch hs inp ty er wy wd rf lt2 ln2 th tr mv fo sp wr td ka (by first | assumption | omega) (by first | assumption | omega)) (cwV 1 hts (lw_V q2058 q2060 qs75 q105 q2061) rfl rfl rfl (by decide +kernel) ⟨Nat.le_of_ble_eq_true rfl, Nat.le_of_ble_eq_true rfl⟩) hK hZ hA hP hD hS [0, 1, 2, 3, 4, 5, 6, 7, 8, 9] [] rfl rfl (by decide) (by decide) (by decide) 0 4 rfl rfl rfl hl.1 (Nat.le_of_ble_eq_true rfl) ⟨Nat.le_of_ble_eq_true rfl, Nat.le_of_ble_eq_true rfl⟩ rfl dX5_lineText_43 (fun r9 u9 H locs hw9 hP hD hS => ?_)
          subst hw9
          have hP : va_P G.1 CL (MW G mh md nr nc pL pG pB pk bf hi sv ch hs inp ty er wy wd rf lt2 ln2 th tr mv fo sp wr td) _ := hP
          have hD : va_D A (MW G mh md nr nc pL pG pB pk bf hi sv ch hs inp ty er wy wd rf lt2 ln2 th tr mv fo sp wr td) := hD
          have hl9 := hT9.1
          rw [List.length_append, lsN_len] at hl9
          have hl8 : (if pB ka = true then [35] else ([] : List Nat)).length ≤ 1 := by split <;> simp
          refine n_cmp_ge (tgt := 76) hx hb dX5_lineText_46 (by decide) (by omega) (by omega) (fun c46 => ?_) (fun c46 => ?_)
          · skip
            have hks : k = szOf nr nc ka := by omega
            refine lv_aload_n hx hb dX5_lineText_76 rfl (lv_at hl 1 rfl) ?_
            refine lv_iload_n hx hb dX5_lineText_77 rfl (lv_at hl 2 rfl) ?_
            refine callVi (As := [.int (nI ka)]) (rest := []) (wc := (MW G mh md nr nc pL pG pB pk bf hi sv ch hs inp ty er wy wd rf lt2 ln2 th tr mv fo sp wr td)) (wr := ([] : va_W)) ⟨hx, hb, hml, hown, hts⟩ (m_X5_isSinging l G mh md nr nc pL pG pB pk bf hi sv ch hs inp ty er wy wd rf lt2 ln2 th tr mv fo sp wr td ka (by first | assumption | omega) (by first | assumption | omega) (by first | assumption | omega)) (cwV 1 hts (lw_V q2050 q2052 qs73 q105 q2053) rfl rfl rfl (by decide +kernel) ⟨Nat.le_of_ble_eq_true rfl, Nat.le_of_ble_eq_true rfl⟩) hK hZ hA hP hD hS [0, 1, 2, 3, 4, 5, 6, 7, 8, 9] [] rfl rfl (by decide) (by decide) (by decide) 0 4 rfl rfl rfl hl.1 (Nat.le_of_ble_eq_true rfl) ⟨Nat.le_of_ble_eq_true rfl, Nat.le_of_ble_eq_true rfl⟩ rfl dX5_lineText_78 (fun r9 u9 H locs hw9 hP hD hS => ?_)
            subst hw9
            have hP : va_P G.1 CL (MW G mh md nr nc pL pG pB pk bf hi sv ch hs inp ty er wy wd rf lt2 ln2 th tr mv fo sp wr td) _ := hP
            have hD : va_D A (MW G mh md nr nc pL pG pB pk bf hi sv ch hs inp ty er wy wd rf lt2 ln2 th tr mv fo sp wr td) := hD
            refine b_if_eq (tgt := 90) hx hb dX5_lineText_81 (by decide) (fun c81 => ?_) (fun c81 => ?_)
            · skip
              refine lv_aload_n hx hb dX5_lineText_90 rfl (lv_at hl 1 rfl) ?_
              refine lv_aload_n hx hb dX5_lineText_91 rfl (lv_at hl 1 rfl) ?_
              refine va_get (D := G.1) (ci := 4) (v := .int (nI ln2)) (C := RX5) (T := TX5) (N := 21) hx hb hts in_X5 hown hK hP 0 rfl rfl 13 (by decide) (hts _ q1740) (fun _ h9 => h9) rfl dX5_lineText_92 ?_
              refine callVi (As := [.int (nI ln2)]) (rest := []) (wc := (MW G mh md nr nc pL pG pB pk bf hi sv ch hs inp ty er wy wd rf lt2 ln2 th tr mv fo sp wr td)) (wr := ([] : va_W)) ⟨hx, hb, hml, hown, hts⟩ (m_X5_done l G mh md nr nc pL pG pB pk bf hi sv ch hs inp ty er wy wd rf lt2 ln2 th tr mv fo sp wr td (nI ln2) ) (cwV 1 hts (lw_V q1821 q1823 qs39 q105 q1824) rfl rfl rfl (by decide +kernel) ⟨Nat.le_of_ble_eq_true rfl, Nat.le_of_ble_eq_true rfl⟩) hK hZ hA hP hD hS [0, 1, 2, 3, 4, 5, 6, 7, 8, 9] [] rfl rfl (by decide) (by decide) (by decide) 0 4 rfl rfl rfl hl.1 (Nat.le_of_ble_eq_true rfl) ⟨Nat.le_of_ble_eq_true rfl, Nat.le_of_ble_eq_true rfl⟩ rfl dX5_lineText_95 (fun r9 u9 H locs hw9 hP hD hS => ?_)
              subst hw9
              have hP : va_P G.1 CL (MW G mh md nr nc pL pG pB pk bf hi sv ch hs inp ty er wy wd rf lt2 ln2 (nI 0) tr mv fo sp wr td) _ := hP
              have hD : va_D A (MW G mh md nr nc pL pG pB pk bf hi sv ch hs inp ty er wy wd rf lt2 ln2 (nI 0) tr mv fo sp wr td) := hD
              have e_th : (nI 0) = (if isIx (nI ka) (nr + nc) = true then nI 0 else nI 1) := (if_pos c5).symm
              rw [e_th] at hP hD
              subst hQ
              exact ret_i hx hb hr hlk (⟨lt2, ln2, rf⟩) ⟨(by rw [if_pos c5, cl_n (by omega), lineX, if_neg (show ¬ snN nr nc pL ka = true by rw [c81]; decide), List.append_nil, ← hks]; exact congrArg nI hT9.1), (fun _ => by rw [if_pos c5, cl_n (by omega), lineX, if_neg (show ¬ snN nr nc pL ka = true by rw [c81]; decide), List.append_nil, ← hks]; exact hT9)⟩ hP hD hS rfl dX5_lineText_98
            · skip
              have hl9 := hT9.1
              rw [List.length_append, lsN_len] at hl9
              have hl8 : (if pB ka = true then [35] else ([] : List Nat)).length ≤ 1 := by split <;> simp
              refine lv_aload_n hx hb dX5_lineText_84 rfl (lv_at hl 1 rfl) ?_
              refine lv_bipush (v := nI 33) hx hb dX5_lineText_85 (by decide) ?_
              refine callVv (As := [.int (nI 33)]) (rest := []) (wc := (MW G mh md nr nc pL pG pB pk bf hi sv ch hs inp ty er wy wd rf lt2 ln2 th tr mv fo sp wr td)) (wr := ([] : va_W)) ⟨hx, hb, hml, hown, hts⟩ (m_X5_writes l G mh md nr nc pL pG pB pk bf hi sv ch hs inp ty er wy wd rf lt2 ln2 th tr mv fo sp wr td 33 (by first | assumption | omega) (by first | assumption | omega)) (cwV 1 hts (lw_V q2089 q2091 qs79 q105 q2092) rfl rfl rfl (by decide +kernel) ⟨Nat.le_of_ble_eq_true rfl, Nat.le_of_ble_eq_true rfl⟩) hK hZ hA hP hD hS [0, 1, 2, 3, 4, 5, 6, 7, 8, 9] [] rfl rfl (by decide) (by decide) (by decide) 0 4 rfl rfl rfl hl.1 (Nat.le_of_ble_eq_true rfl) ⟨Nat.le_of_ble_eq_true rfl, Nat.le_of_ble_eq_true rfl⟩ rfl dX5_lineText_87 (fun u9 H locs hw9 hP hD hS => ?_)
              have hP : va_P G.1 CL (MW G mh md nr nc pL pG pB pk bf hi sv ch hs inp ty er wy wd rf (va_up lt2 ln2 33) (ln2 + 1) th tr mv fo sp wr td) _ := hP
              have hD : va_D A (MW G mh md nr nc pL pG pB pk bf hi sv ch hs inp ty er wy wd rf (va_up lt2 ln2 33) (ln2 + 1) th tr mv fo sp wr td) := hD
              refine lv_aload_n hx hb dX5_lineText_90 rfl (lv_at hl 1 rfl) ?_
              refine lv_aload_n hx hb dX5_lineText_91 rfl (lv_at hl 1 rfl) ?_
              refine va_get (D := G.1) (ci := 4) (v := .int (nI (ln2 + 1))) (C := RX5) (T := TX5) (N := 21) hx hb hts in_X5 hown hK hP 0 rfl rfl 13 (by decide) (hts _ q1740) (fun _ h9 => h9) rfl dX5_lineText_92 ?_
              refine callVi (As := [.int (nI (ln2 + 1))]) (rest := []) (wc := (MW G mh md nr nc pL pG pB pk bf hi sv ch hs inp ty er wy wd rf (va_up lt2 ln2 33) (ln2 + 1) th tr mv fo sp wr td)) (wr := ([] : va_W)) ⟨hx, hb, hml, hown, hts⟩ (m_X5_done l G mh md nr nc pL pG pB pk bf hi sv ch hs inp ty er wy wd rf (va_up lt2 ln2 33) (ln2 + 1) th tr mv fo sp wr td (nI (ln2 + 1)) ) (cwV 1 hts (lw_V q1821 q1823 qs39 q105 q1824) rfl rfl rfl (by decide +kernel) ⟨Nat.le_of_ble_eq_true rfl, Nat.le_of_ble_eq_true rfl⟩) hK hZ hA hP hD hS [0, 1, 2, 3, 4, 5, 6, 7, 8, 9] [] rfl rfl (by decide) (by decide) (by decide) 0 4 rfl rfl rfl hl.1 (Nat.le_of_ble_eq_true rfl) ⟨Nat.le_of_ble_eq_true rfl, Nat.le_of_ble_eq_true rfl⟩ rfl dX5_lineText_95 (fun r9 u9 H locs hw9 hP hD hS => ?_)
              subst hw9
              have hP : va_P G.1 CL (MW G mh md nr nc pL pG pB pk bf hi sv ch hs inp ty er wy wd rf (va_up lt2 ln2 33) (ln2 + 1) (nI 0) tr mv fo sp wr td) _ := hP
              have hD : va_D A (MW G mh md nr nc pL pG pB pk bf hi sv ch hs inp ty er wy wd rf (va_up lt2 ln2 33) (ln2 + 1) (nI 0) tr mv fo sp wr td) := hD
              have e_th : (nI 0) = (if isIx (nI ka) (nr + nc) = true then nI 0 else nI 1) := (if_pos c5).symm
              rw [e_th] at hP hD
              subst hQ
              exact ret_i hx hb hr hlk (⟨(va_up lt2 ln2 33), (ln2 + 1), rf⟩) ⟨(by rw [if_pos c5, cl_n (by omega), lineX, if_pos c81, ← hks]; exact congrArg nI (HoldT.push hT9).1), (fun _ => by rw [if_pos c5, cl_n (by omega), lineX, if_pos c81, ← hks]; exact HoldT.push hT9)⟩ hP hD hS rfl dX5_lineText_98
          · skip
            have hpl := plOn_lt hd hka (show k < szOf nr nc ka by omega)
            have hlr := hLR _ hpl.1
            refine lv_aload_n hx hb dX5_lineText_49 rfl (lv_at hl 1 rfl) ?_
            refine lv_aload_n hx hb dX5_lineText_50 rfl (lv_at hl 1 rfl) ?_
            refine va_get (D := G.1) (ci := 4) (v := .ref (md 0)) (C := RX5) (T := TX5) (N := 21) hx hb hts in_X5 hown hK hP 0 rfl rfl 0 (by decide) (hts _ q1727) (fun _ h9 => h9) rfl dX5_lineText_51 ?_
            refine lv_bipush (v := nI 14) hx hb dX5_lineText_54 (by decide) ?_
            refine lv_aload_n hx hb dX5_lineText_56 rfl (lv_at hl 1 rfl) ?_
            refine lv_iload_n hx hb dX5_lineText_57 rfl (lv_at hl 2 rfl) ?_
            refine lv_iload_n hx hb dX5_lineText_58 rfl (lv_at hl 0 rfl) ?_
            refine callVi (As := [.int (nI ka), .int (nI k)]) (rest := [.int (nI 14), .ref (md 0), .ref mh]) (wc := (MW G mh md nr nc pL pG pB pk bf hi sv ch hs inp ty er wy wd rf lt2 ln2 th tr mv fo sp wr td)) (wr := ([] : va_W)) ⟨hx, hb, hml, hown, hts⟩ (m_X5_placeOn l G mh md nr nc pL pG pB pk bf hi sv ch hs inp ty er wy wd rf lt2 ln2 th tr mv fo sp wr td ka k (by first | assumption | omega) (by first | assumption | omega)) (cwV 2 hts (lw_V q2066 q2068 qs77 q105 q2069) rfl rfl rfl (by decide +kernel) ⟨Nat.le_of_ble_eq_true rfl, Nat.le_of_ble_eq_true rfl⟩) hK hZ hA hP hD hS [0, 1, 2, 3, 4, 5, 6, 7, 8, 9] [] rfl rfl (by decide) (by decide) (by decide) 0 4 rfl rfl rfl hl.1 (Nat.le_of_ble_eq_true rfl) ⟨Nat.le_of_ble_eq_true rfl, Nat.le_of_ble_eq_true rfl⟩ rfl dX5_lineText_59 (fun r9 u9 H locs hw9 hP hD hS => ?_)
            subst hw9
            have hP : va_P G.1 CL (MW G mh md nr nc pL pG pB pk bf hi sv ch hs inp ty er wy wd rf lt2 ln2 th tr mv fo sp wr td) _ := hP
            have hD : va_D A (MW G mh md nr nc pL pG pB pk bf hi sv ch hs inp ty er wy wd rf lt2 ln2 th tr mv fo sp wr td) := hD
            refine n_iadd hx hb dX5_lineText_62 ?_
            refine r_iald hx hb hK hP 1 3 rfl rfl (by omega) (by decide) dX5_lineText_63 ?_
            refine eq_i (y := nI (pL (plOn nr nc ka k) - 97)) (gZ_c (by omega)) ?_
            refine callSi (As := [.int (nI (pL (plOn nr nc ka k) - 97))]) (rest := [.ref mh]) (wc := ([] : va_W)) (wr := (MW G mh md nr nc pL pG pB pk bf hi sv ch hs inp ty er wy wd rf lt2 ln2 th tr mv fo sp wr td)) ⟨hx, hb, hml, hown, hts⟩ (m_X5_signOf l G (nI (pL (plOn nr nc ka k) - 97)) (pL (plOn nr nc ka k)) (show gk (pL (plOn nr nc ka k)) = nI (pL (plOn nr nc ka k) - 97) from if_neg (by omega)) (Or.inr hlr)) (va_cwS 1 hts (lw_S q1852 q1853 q105 q1854) rfl rfl rfl (by decide +kernel) ⟨Nat.le_of_ble_eq_true rfl, Nat.le_of_ble_eq_true rfl⟩) hK hZ hA hP hD hS [] [0, 1, 2, 3, 4, 5, 6, 7, 8, 9] rfl rfl (by decide) (by decide) (by decide) rfl hl.1 (Nat.le_of_ble_eq_true rfl) ⟨Nat.le_of_ble_eq_true rfl, Nat.le_of_ble_eq_true rfl⟩ rfl dX5_lineText_64 (fun r9 u9 H locs hw9 hP hD hS => ?_)
            subst hw9
            have hP : va_P G.1 CL (MW G mh md nr nc pL pG pB pk bf hi sv ch hs inp ty er wy wd rf lt2 ln2 th tr mv fo sp wr td) _ := hP
            have hD : va_D A (MW G mh md nr nc pL pG pB pk bf hi sv ch hs inp ty er wy wd rf lt2 ln2 th tr mv fo sp wr td) := hD
            refine callVv (As := [.int (nI (pL (plOn nr nc ka k)))]) (rest := []) (wc := (MW G mh md nr nc pL pG pB pk bf hi sv ch hs inp ty er wy wd rf lt2 ln2 th tr mv fo sp wr td)) (wr := ([] : va_W)) ⟨hx, hb, hml, hown, hts⟩ (m_X5_writes l G mh md nr nc pL pG pB pk bf hi sv ch hs inp ty er wy wd rf lt2 ln2 th tr mv fo sp wr td (pL (plOn nr nc ka k)) (by first | assumption | omega) (by first | assumption | omega)) (cwV 1 hts (lw_V q2089 q2091 qs79 q105 q2092) rfl rfl rfl (by decide +kernel) ⟨Nat.le_of_ble_eq_true rfl, Nat.le_of_ble_eq_true rfl⟩) hK hZ hA hP hD hS [0, 1, 2, 3, 4, 5, 6, 7, 8, 9] [] rfl rfl (by decide) (by decide) (by decide) 0 4 rfl rfl rfl hl.1 (Nat.le_of_ble_eq_true rfl) ⟨Nat.le_of_ble_eq_true rfl, Nat.le_of_ble_eq_true rfl⟩ rfl dX5_lineText_67 (fun u9 H locs hw9 hP hD hS => ?_)
            have hP : va_P G.1 CL (MW G mh md nr nc pL pG pB pk bf hi sv ch hs inp ty er wy wd rf (va_up lt2 ln2 (pL (plOn nr nc ka k))) (ln2 + 1) th tr mv fo sp wr td) _ := hP
            have hD : va_D A (MW G mh md nr nc pL pG pB pk bf hi sv ch hs inp ty er wy wd rf (va_up lt2 ln2 (pL (plOn nr nc ka k))) (ln2 + 1) th tr mv fo sp wr td) := hD
            refine lv_iinc (v := nI (k + 1)) (lv' := [(2, .int (nI (k + 1))), (0, .ref mh), (1, .int (nI ka))]) hx hb dX5_lineText_70 hl (k := 0) rfl (nI_add _ _) (by decide) rfl (fun ls hl => ?_)
            refine lv_goto (tgt := 40) hx hb dX5_lineText_73 (by decide) ?_
            exact ih40 (k + 1) (va_up lt2 ln2 (pL (plOn nr nc ka k))) (ln2 + 1) (by omega) (by omega) (by rw [lsN, ← List.append_assoc]; exact hT9.push) _ _ _ hP hD hS (lv_sub hl [0, 1, 2] rfl)
      exact lp40 _ 0 (va_up lt 0 35) (0 + 1) (Nat.lt_succ_self _) (by omega) (by first | (rw [if_pos (bI_inj.mp c29)]; exact HoldT.nil.push) | (rw [if_neg (fun z => c29 (by rw [z]; rfl))]; exact HoldT.nil)) _ _ _ hP hD hS (lv_sub hl [0, 1, 2] rfl)
  · skip
    refine lv_aload_n hx hb dX5_lineText_8 rfl (lv_at hl 0 rfl) ?_
    refine lv_iconst (v := nI 1) hx hb dX5_lineText_9 (by decide) ?_
    refine callVi (As := [.int (nI 1)]) (rest := []) (wc := (MW G mh md nr nc pL pG pB pk bf hi sv ch hs inp ty er wy wd rf lt ln th tr mv fo sp wr td)) (wr := ([] : va_W)) ⟨hx, hb, hml, hown, hts⟩ (m_X5_fails l G mh md nr nc pL pG pB pk bf hi sv ch hs inp ty er wy wd rf lt ln th tr mv fo sp wr td (nI 1) ) (cwV 1 hts (lw_V q1813 q1815 qs37 q105 q1816) rfl rfl rfl (by decide +kernel) ⟨Nat.le_of_ble_eq_true rfl, Nat.le_of_ble_eq_true rfl⟩) hK hZ hA hP hD hS [0, 1, 2, 3, 4, 5, 6, 7, 8, 9] [] rfl rfl (by decide) (by decide) (by decide) 0 4 rfl rfl rfl hl.1 (Nat.le_of_ble_eq_true rfl) ⟨Nat.le_of_ble_eq_true rfl, Nat.le_of_ble_eq_true rfl⟩ rfl dX5_lineText_10 (fun r9 u9 H locs hw9 hP hD hS => ?_)
    subst hw9
    have hP : va_P G.1 CL (MW G mh md nr nc pL pG pB pk bf hi sv ch hs inp ty er wy wd false lt ln (nI 1) tr mv fo sp wr td) _ := hP
    have hD : va_D A (MW G mh md nr nc pL pG pB pk bf hi sv ch hs inp ty er wy wd false lt ln (nI 1) tr mv fo sp wr td) := hD
    have e_th : (nI 1) = (if isIx pa (nr + nc) = true then nI 0 else nI 1) := (if_neg (by rw [c5]; decide)).symm
    rw [e_th] at hP hD
    subst hQ
    exact ret_i hx hb hr hlk (⟨lt, ln, false⟩) ⟨(if_neg (by rw [c5]; decide)).symm, (fun h9 => by rw [if_neg (by rw [c5]; decide)]; exact h9)⟩ hP hD hS rfl dX5_lineText_13
set_option maxHeartbeats 4000000 in
set_option maxRecDepth 100000 in
theorem m_X5_character (l : Launch) (G : GG) (mh : Nat) (md : Nat → Nat) (nr : Nat) (nc : Nat) (pL : Nat → Nat) (pG : Nat → Nat) (pB : Nat → Bool) (pk : Nat → Int32) (bf : Nat → Int32) (hi : Nat → Int32) (sv : Nat → Int32) (ch : Nat) (hs : Bool) (inp : Nat → Nat) (ty : Nat) (er : Int32) (wy : Int32) (wd : Int32) (rf : Bool) (lt : Nat → Nat) (ln : Nat) (th : Int32) (tr : Nat → Nat) (mv : Nat → Nat) (fo : Int32) (sp : Nat) (wr : Bool) (td : Nat → Int32) (pa : Int32) (hln : ln ≤ 20) (hlt : ∀ j, j < ln → lt j < 65536) : MM l G yX5_character cX5_character 2 (some .char) ⟨1, 0, 0, 22⟩ [.ref mh, .int pa] (MW G mh md nr nc pL pG pB pk bf hi sv ch hs inp ty er wy wd rf lt ln th tr mv fo sp wr td) (Qi_ G (fun (r : Int32) (_ : Unit) => r = nI (if isIx pa ln = true then lt (cl_ pa) else 0)) (fun (_ : Unit) => (MW G mh md nr nc pL pG pB pk bf hi sv ch hs inp ty er wy wd rf lt ln (if isIx pa ln = true then nI 0 else nI 1) tr mv fo sp wr td))) := by
  refine MM.of (by decide) (Nat.le_of_ble_eq_true rfl) ?_
  intro p e s m args below meth cd A C hini hA hK hZ hP hD ls hl
  generalize hQ : MQ below ((Qi_ G (fun (r : Int32) (_ : Unit) => r = nI (if isIx pa ln = true then lt (cl_ pa) else 0)) (fun (_ : Unit) => (MW G mh md nr nc pL pG pB pk bf hi sv ch hs inp ty er wy wd rf lt ln (if isIx pa ln = true then nI 0 else nI 1) tr mv fo sp wr td))) A) args s (⟨1, 0, 0, 22⟩ : Room).cells (⟨1, 0, 0, 22⟩ : Room).slots A = Q
  obtain ⟨hx, hb, hr, hts, hown, hlk, hml⟩ := C
  have hown : s.vm.findClass RX5 = some m.cls := hown
  have hS : va_S A s.heap s.heap [] := va_S.rf
  have hl : lv_has ls 2 [(0, .ref mh), (1, .int pa)] := hl
  refine lv_aload_n hx hb dX5_character_0 rfl (lv_at hl 0 rfl) ?_
  refine lv_iload_n hx hb dX5_character_1 rfl (lv_at hl 1 rfl) ?_
  refine lv_iconst (v := nI 0) hx hb dX5_character_2 (by decide) ?_
  refine lv_aload_n hx hb dX5_character_3 rfl (lv_at hl 0 rfl) ?_
  refine va_get (D := G.1) (ci := 4) (v := .int (nI ln)) (C := RX5) (T := TX5) (N := 21) hx hb hts in_X5 hown hK hP 0 rfl rfl 13 (by decide) (hts _ q1740) (fun _ h9 => h9) rfl dX5_character_4 ?_
  refine lv_iconst (v := nI 1) hx hb dX5_character_7 (by decide) ?_
  refine lv_isub hx hb dX5_character_8 ?_
  refine callSi (As := [.int pa, .int (nI 0), .int ((nI ln) - (nI 1))]) (rest := [.ref mh]) (wc := ([] : va_W)) (wr := (MW G mh md nr nc pL pG pB pk bf hi sv ch hs inp ty er wy wd rf lt ln th tr mv fo sp wr td)) ⟨hx, hb, hml, hown, hts⟩ (m_X5_in l G pa (nI 0) ((nI ln) - (nI 1)) ) (va_cwS 3 hts (lw_S q1810 q1811 q105 q1812) rfl rfl rfl (by decide +kernel) ⟨Nat.le_of_ble_eq_true rfl, Nat.le_of_ble_eq_true rfl⟩) hK hZ hA hP hD hS [] [0, 1, 2, 3, 4, 5, 6, 7, 8, 9] rfl rfl (by decide) (by decide) (by decide) rfl hl.1 (Nat.le_of_ble_eq_true rfl) ⟨Nat.le_of_ble_eq_true rfl, Nat.le_of_ble_eq_true rfl⟩ rfl dX5_character_9 (fun r9 u9 H locs hw9 hP hD hS => ?_)
  subst hw9
  have hP : va_P G.1 CL (MW G mh md nr nc pL pG pB pk bf hi sv ch hs inp ty er wy wd rf lt ln th tr mv fo sp wr td) _ := hP
  have hD : va_D A (MW G mh md nr nc pL pG pB pk bf hi sv ch hs inp ty er wy wd rf lt ln th tr mv fo sp wr td) := hD
  refine b_if_eq (tgt := 19) hx hb dX5_character_12 (by decide) (fun c12 => ?_) (fun c12 => ?_)
  · skip
    rw [in_ix0 (by omega)] at c12
    refine lv_iconst (v := nI 1) hx hb dX5_character_19 (by decide) ?_
    refine va_put (D := G.1) (ci := 4) (v := .int (nI 1)) (ty := .int) (C := RX5) (T := TX5) (N := 21) hx hb hts in_X5 tyX5 tyX5_ok nmX5 hown hK hP hD hS 0 rfl rfl 14 (by decide) (hts _ q1741) (fun _ h9 => h9) rfl (by decide +kernel) rfl rfl (Nat.le_of_ble_eq_true rfl) dX5_character_20 (fun H locs hP hD hS => ?_)
    have hP : va_P G.1 CL (MW G mh md nr nc pL pG pB pk bf hi sv ch hs inp ty er wy wd rf lt ln (nI 1) tr mv fo sp wr td) _ := hP
    have hD : va_D A (MW G mh md nr nc pL pG pB pk bf hi sv ch hs inp ty er wy wd rf lt ln (nI 1) tr mv fo sp wr td) := hD
    refine lv_aload_n hx hb dX5_character_23 rfl (lv_at hl 0 rfl) ?_
    refine va_get (D := G.1) (ci := 4) (v := .int (nI 1)) (C := RX5) (T := TX5) (N := 21) hx hb hts in_X5 hown hK hP 0 rfl rfl 14 (by decide) (hts _ q1741) (fun _ h9 => h9) rfl dX5_character_24 ?_
    refine n_if_ne (tgt := 39) hx hb dX5_character_27 (by decide) (by decide) (fun c27 => ?_) (fun c27 => ?_)
    rotate_left
    · exact absurd c27 (by decide)
    refine lv_iconst (v := nI 0) hx hb dX5_character_39 (by decide) ?_
    have e_th : nI 1 = (if isIx pa ln = true then nI 0 else nI 1) := (if_neg (by rw [c12]; decide)).symm
    rw [e_th] at hP hD
    subst hQ
    exact ret_i hx hb hr hlk () (congrArg nI (by rw [if_neg (by rw [c12]; decide)])) hP hD hS (pk_charN (by first | exact hlt ka hka | omega)).1 dX5_character_40
  · skip
    rw [in_ix0 (by omega)] at c12
    refine lv_iconst (v := nI 0) hx hb dX5_character_15 (by decide) ?_
    refine lv_goto (tgt := 20) hx hb dX5_character_16 (by decide) ?_
    refine va_put (D := G.1) (ci := 4) (v := .int (nI 0)) (ty := .int) (C := RX5) (T := TX5) (N := 21) hx hb hts in_X5 tyX5 tyX5_ok nmX5 hown hK hP hD hS 0 rfl rfl 14 (by decide) (hts _ q1741) (fun _ h9 => h9) rfl (by decide +kernel) rfl rfl (Nat.le_of_ble_eq_true rfl) dX5_character_20 (fun H locs hP hD hS => ?_)
    have hP : va_P G.1 CL (MW G mh md nr nc pL pG pB pk bf hi sv ch hs inp ty er wy wd rf lt ln (nI 0) tr mv fo sp wr td) _ := hP
    have hD : va_D A (MW G mh md nr nc pL pG pB pk bf hi sv ch hs inp ty er wy wd rf lt ln (nI 0) tr mv fo sp wr td) := hD
    refine lv_aload_n hx hb dX5_character_23 rfl (lv_at hl 0 rfl) ?_
    refine va_get (D := G.1) (ci := 4) (v := .int (nI 0)) (C := RX5) (T := TX5) (N := 21) hx hb hts in_X5 hown hK hP 0 rfl rfl 14 (by decide) (hts _ q1741) (fun _ h9 => h9) rfl dX5_character_24 ?_
    refine n_if_ne (tgt := 39) hx hb dX5_character_27 (by decide) (by decide) (fun c27 => ?_) (fun c27 => ?_)
    · exact absurd c27 (by decide)
    obtain ⟨ka, hka, rfl⟩ := isIx_t c12 (by omega)
    refine lv_aload_n hx hb dX5_character_30 rfl (lv_at hl 0 rfl) ?_
    refine va_get (D := G.1) (ci := 4) (v := .ref (md 5)) (C := RX5) (T := TX5) (N := 21) hx hb hts in_X5 hown hK hP 0 rfl rfl 12 (by decide) (hts _ q1739) (fun _ h9 => h9) rfl dX5_character_31 ?_
    refine lv_iload_n hx hb dX5_character_34 rfl (lv_at hl 1 rfl) ?_
    refine n_cald hx hb hK hP 6 2 rfl rfl (by omega) (by decide) dX5_character_35 ?_
    refine lv_goto (tgt := 40) hx hb dX5_character_36 (by decide) ?_
    have e_th : nI 0 = (if isIx (nI ka) ln = true then nI 0 else nI 1) := (if_pos c12).symm
    rw [e_th] at hP hD
    subst hQ
    exact ret_i hx hb hr hlk () (congrArg nI (by rw [if_pos c12, cl_n (by omega)])) hP hD hS (pk_charN (by first | exact hlt ka hka | omega)).1 dX5_character_40
set_option maxHeartbeats 4000000 in
set_option maxRecDepth 100000 in
theorem m_X5_append (l : Launch) (G : GG) (mh : Nat) (md : Nat → Nat) (nr : Nat) (nc : Nat) (pL : Nat → Nat) (pG : Nat → Nat) (pB : Nat → Bool) (pk : Nat → Int32) (bf : Nat → Int32) (hi : Nat → Int32) (sv : Nat → Int32) (ch : Nat) (hs : Bool) (inp : Nat → Nat) (ty : Nat) (er : Int32) (wy : Int32) (wd : Int32) (rf : Bool) (lt : Nat → Nat) (ln : Nat) (th : Int32) (tr : Nat → Nat) (mv : Nat → Nat) (fo : Int32) (sp : Nat) (wr : Bool) (td : Nat → Int32) (ac : Nat) (hac : ac < 65536) (hty : ty ≤ 60) : MM l G yX5_append cX5_append 2 (some .int) ⟨1, 0, 0, 21⟩ [.ref mh, .int (nI ac)] (MW G mh md nr nc pL pG pB pk bf hi sv ch hs inp ty er wy wd rf lt ln th tr mv fo sp wr td) (Qi_ G (fun (r : Int32) (u : (Bool)) => r = nI (if ty = 60 then 0 else ty + 1)) (fun (u : (Bool)) => (MW G mh md nr nc pL pG pB pk bf hi sv ch hs (if ty = 60 then inp else va_up inp ty ac) (if ty = 60 then ty else ty + 1) er wy wd u lt ln (if ty = 60 then nI 1 else nI 0) tr mv fo sp wr td))) := by
  refine MM.of (by decide) (Nat.le_of_ble_eq_true rfl) ?_
  intro p e s m args below meth cd A C hini hA hK hZ hP hD ls hl
  generalize hQ : MQ below ((Qi_ G (fun (r : Int32) (u : (Bool)) => r = nI (if ty = 60 then 0 else ty + 1)) (fun (u : (Bool)) => (MW G mh md nr nc pL pG pB pk bf hi sv ch hs (if ty = 60 then inp else va_up inp ty ac) (if ty = 60 then ty else ty + 1) er wy wd u lt ln (if ty = 60 then nI 1 else nI 0) tr mv fo sp wr td))) A) args s (⟨1, 0, 0, 21⟩ : Room).cells (⟨1, 0, 0, 21⟩ : Room).slots A = Q
  obtain ⟨hx, hb, hr, hts, hown, hlk, hml⟩ := C
  have hown : s.vm.findClass RX5 = some m.cls := hown
  have hS : va_S A s.heap s.heap [] := va_S.rf
  have hl : lv_has ls 2 [(0, .ref mh), (1, .int (nI ac))] := hl
  refine lv_aload_n hx hb dX5_append_0 rfl (lv_at hl 0 rfl) ?_
  refine va_get (D := G.1) (ci := 4) (v := .int (nI ty)) (C := RX5) (T := TX5) (N := 21) hx hb hts in_X5 hown hK hP 0 rfl rfl 7 (by decide) (hts _ q1734) (fun _ h9 => h9) rfl dX5_append_1 ?_
  refine lv_bipush (v := nI 60) hx hb dX5_append_4 (by decide) ?_
  refine n_cmp_ne (tgt := 15) hx hb dX5_append_6 (by decide) (by omega) (by omega) (fun c6 => ?_) (fun c6 => ?_)
  · skip
    refine lv_aload_n hx hb dX5_append_15 rfl (lv_at hl 0 rfl) ?_
    refine va_get (D := G.1) (ci := 4) (v := .ref (md 4)) (C := RX5) (T := TX5) (N := 21) hx hb hts in_X5 hown hK hP 0 rfl rfl 6 (by decide) (hts _ q1733) (fun _ h9 => h9) rfl dX5_append_16 ?_
    refine lv_aload_n hx hb dX5_append_19 rfl (lv_at hl 0 rfl) ?_
    refine va_get (D := G.1) (ci := 4) (v := .int (nI ty)) (C := RX5) (T := TX5) (N := 21) hx hb hts in_X5 hown hK hP 0 rfl rfl 7 (by decide) (hts _ q1734) (fun _ h9 => h9) rfl dX5_append_20 ?_
    refine lv_iload_n hx hb dX5_append_23 rfl (lv_at hl 1 rfl) ?_
    refine n_cast hx hb hK hP hD hS 5 2 rfl rfl (by omega) (by decide) hac dX5_append_24 (fun H locs hP hD hS => ?_)
    have hP : va_P G.1 CL (MW G mh md nr nc pL pG pB pk bf hi sv ch hs (va_up inp ty ac) ty er wy wd rf lt ln th tr mv fo sp wr td) _ := hP
    have hD : va_D A (MW G mh md nr nc pL pG pB pk bf hi sv ch hs (va_up inp ty ac) ty er wy wd rf lt ln th tr mv fo sp wr td) := hD
    refine lv_aload_n hx hb dX5_append_25 rfl (lv_at hl 0 rfl) ?_
    refine lv_dup hx hb dX5_append_26 rfl ?_
    refine va_get (D := G.1) (ci := 4) (v := .int (nI ty)) (C := RX5) (T := TX5) (N := 21) hx hb hts in_X5 hown hK hP 0 rfl rfl 7 (by decide) (hts _ q1734) (fun _ h9 => h9) rfl dX5_append_27 ?_
    refine lv_iconst (v := nI 1) hx hb dX5_append_30 (by decide) ?_
    refine n_iadd hx hb dX5_append_31 ?_
    refine va_put (D := G.1) (ci := 4) (v := .int (nI (ty + 1))) (ty := .int) (C := RX5) (T := TX5) (N := 21) hx hb hts in_X5 tyX5 tyX5_ok nmX5 hown hK hP hD hS 0 rfl rfl 7 (by decide) (hts _ q1734) (fun _ h9 => h9) rfl (by decide +kernel) rfl rfl (Nat.le_of_ble_eq_true rfl) dX5_append_32 (fun H locs hP hD hS => ?_)
    have hP : va_P G.1 CL (MW G mh md nr nc pL pG pB pk bf hi sv ch hs (va_up inp ty ac) (ty + 1) er wy wd rf lt ln th tr mv fo sp wr td) _ := hP
    have hD : va_D A (MW G mh md nr nc pL pG pB pk bf hi sv ch hs (va_up inp ty ac) (ty + 1) er wy wd rf lt ln th tr mv fo sp wr td) := hD
    refine lv_aload_n hx hb dX5_append_35 rfl (lv_at hl 0 rfl) ?_
    refine lv_aload_n hx hb dX5_append_36 rfl (lv_at hl 0 rfl) ?_
    refine va_get (D := G.1) (ci := 4) (v := .int (nI (ty + 1))) (C := RX5) (T := TX5) (N := 21) hx hb hts in_X5 hown hK hP 0 rfl rfl 7 (by decide) (hts _ q1734) (fun _ h9 => h9) rfl dX5_append_37 ?_
    refine callVi (As := [.int (nI (ty + 1))]) (rest := []) (wc := (MW G mh md nr nc pL pG pB pk bf hi sv ch hs (va_up inp ty ac) (ty + 1) er wy wd rf lt ln th tr mv fo sp wr td)) (wr := ([] : va_W)) ⟨hx, hb, hml, hown, hts⟩ (m_X5_done l G mh md nr nc pL pG pB pk bf hi sv ch hs (va_up inp ty ac) (ty + 1) er wy wd rf lt ln th tr mv fo sp wr td (nI (ty + 1)) ) (cwV 1 hts (lw_V q1821 q1823 qs39 q105 q1824) rfl rfl rfl (by decide +kernel) ⟨Nat.le_of_ble_eq_true rfl, Nat.le_of_ble_eq_true rfl⟩) hK hZ hA hP hD hS [0, 1, 2, 3, 4, 5, 6, 7, 8, 9] [] rfl rfl (by decide) (by decide) (by decide) 0 4 rfl rfl rfl hl.1 (Nat.le_of_ble_eq_true rfl) ⟨Nat.le_of_ble_eq_true rfl, Nat.le_of_ble_eq_true rfl⟩ rfl dX5_append_40 (fun r9 u9 H locs hw9 hP hD hS => ?_)
    subst hw9
    have hP : va_P G.1 CL (MW G mh md nr nc pL pG pB pk bf hi sv ch hs (va_up inp ty ac) (ty + 1) er wy wd rf lt ln (nI 0) tr mv fo sp wr td) _ := hP
    have hD : va_D A (MW G mh md nr nc pL pG pB pk bf hi sv ch hs (va_up inp ty ac) (ty + 1) er wy wd rf lt ln (nI 0) tr mv fo sp wr td) := hD
    subst hQ
    rw [if_neg c6, if_neg c6, if_neg c6, if_neg c6]
    exact ret_i hx hb hr hlk rf rfl hP hD hS rfl dX5_append_43
  · skip
    refine lv_aload_n hx hb dX5_append_9 rfl (lv_at hl 0 rfl) ?_
    refine lv_iconst (v := nI 1) hx hb dX5_append_10 (by decide) ?_
    refine callVi (As := [.int (nI 1)]) (rest := []) (wc := (MW G mh md nr nc pL pG pB pk bf hi sv ch hs inp ty er wy wd rf lt ln th tr mv fo sp wr td)) (wr := ([] : va_W)) ⟨hx, hb, hml, hown, hts⟩ (m_X5_fails l G mh md nr nc pL pG pB pk bf hi sv ch hs inp ty er wy wd rf lt ln th tr mv fo sp wr td (nI 1) ) (cwV 1 hts (lw_V q1813 q1815 qs37 q105 q1816) rfl rfl rfl (by decide +kernel) ⟨Nat.le_of_ble_eq_true rfl, Nat.le_of_ble_eq_true rfl⟩) hK hZ hA hP hD hS [0, 1, 2, 3, 4, 5, 6, 7, 8, 9] [] rfl rfl (by decide) (by decide) (by decide) 0 4 rfl rfl rfl hl.1 (Nat.le_of_ble_eq_true rfl) ⟨Nat.le_of_ble_eq_true rfl, Nat.le_of_ble_eq_true rfl⟩ rfl dX5_append_11 (fun r9 u9 H locs hw9 hP hD hS => ?_)
    subst hw9
    have hP : va_P G.1 CL (MW G mh md nr nc pL pG pB pk bf hi sv ch hs inp ty er wy wd false lt ln (nI 1) tr mv fo sp wr td) _ := hP
    have hD : va_D A (MW G mh md nr nc pL pG pB pk bf hi sv ch hs inp ty er wy wd false lt ln (nI 1) tr mv fo sp wr td) := hD
    subst hQ
    rw [if_pos c6, if_pos c6, if_pos c6, if_pos c6]
    exact ret_i hx hb hr hlk false rfl hP hD hS rfl dX5_append_14
set_option maxHeartbeats 4000000 in
set_option maxRecDepth 100000 in
theorem m_X5_errorPosition (l : Launch) (G : GG) (mh : Nat) (md : Nat → Nat) (nr : Nat) (nc : Nat) (pL : Nat → Nat) (pG : Nat → Nat) (pB : Nat → Bool) (pk : Nat → Int32) (bf : Nat → Int32) (hi : Nat → Int32) (sv : Nat → Int32) (ch : Nat) (hs : Bool) (inp : Nat → Nat) (ty : Nat) (er : Int32) (wy : Int32) (wd : Int32) (rf : Bool) (lt : Nat → Nat) (ln : Nat) (th : Int32) (tr : Nat → Nat) (mv : Nat → Nat) (fo : Int32) (sp : Nat) (wr : Bool) (td : Nat → Int32)  : MM l G yX5_errorPosition cX5_errorPosition 1 (some .int) ⟨1, 0, 0, 21⟩ [.ref mh] (MW G mh md nr nc pL pG pB pk bf hi sv ch hs inp ty er wy wd rf lt ln th tr mv fo sp wr td) (Qi_ G (fun (r : Int32) (_ : Unit) => r = er) (fun (_ : Unit) => (MW G mh md nr nc pL pG pB pk bf hi sv ch hs inp ty er wy wd rf lt ln (nI 0) tr mv fo sp wr td))) := by
  refine MM.of (by decide) (Nat.le_of_ble_eq_true rfl) ?_
  intro p e s m args below meth cd A C hini hA hK hZ hP hD ls hl
  generalize hQ : MQ below ((Qi_ G (fun (r : Int32) (_ : Unit) => r = er) (fun (_ : Unit) => (MW G mh md nr nc pL pG pB pk bf hi sv ch hs inp ty er wy wd rf lt ln (nI 0) tr mv fo sp wr td))) A) args s (⟨1, 0, 0, 21⟩ : Room).cells (⟨1, 0, 0, 21⟩ : Room).slots A = Q
  obtain ⟨hx, hb, hr, hts, hown, hlk, hml⟩ := C
  have hown : s.vm.findClass RX5 = some m.cls := hown
  have hS : va_S A s.heap s.heap [] := va_S.rf
  have hl : lv_has ls 1 [(0, .ref mh)] := hl
  refine lv_aload_n hx hb dX5_errorPosition_0 rfl (lv_at hl 0 rfl) ?_
  refine lv_aload_n hx hb dX5_errorPosition_1 rfl (lv_at hl 0 rfl) ?_
  refine va_get (D := G.1) (ci := 4) (v := .int er) (C := RX5) (T := TX5) (N := 21) hx hb hts in_X5 hown hK hP 0 rfl rfl 8 (by decide) (hts _ q1735) (fun _ h9 => h9) rfl dX5_errorPosition_2 ?_
  refine callVi (As := [.int er]) (rest := []) (wc := (MW G mh md nr nc pL pG pB pk bf hi sv ch hs inp ty er wy wd rf lt ln th tr mv fo sp wr td)) (wr := ([] : va_W)) ⟨hx, hb, hml, hown, hts⟩ (m_X5_done l G mh md nr nc pL pG pB pk bf hi sv ch hs inp ty er wy wd rf lt ln th tr mv fo sp wr td er ) (cwV 1 hts (lw_V q1821 q1823 qs39 q105 q1824) rfl rfl rfl (by decide +kernel) ⟨Nat.le_of_ble_eq_true rfl, Nat.le_of_ble_eq_true rfl⟩) hK hZ hA hP hD hS [0, 1, 2, 3, 4, 5, 6, 7, 8, 9] [] rfl rfl (by decide) (by decide) (by decide) 0 4 rfl rfl rfl hl.1 (Nat.le_of_ble_eq_true rfl) ⟨Nat.le_of_ble_eq_true rfl, Nat.le_of_ble_eq_true rfl⟩ rfl dX5_errorPosition_5 (fun r9 u9 H locs hw9 hP hD hS => ?_)
  subst r9
  have hP : va_P G.1 CL (MW G mh md nr nc pL pG pB pk bf hi sv ch hs inp ty er wy wd rf lt ln (nI 0) tr mv fo sp wr td) _ := hP
  have hD : va_D A (MW G mh md nr nc pL pG pB pk bf hi sv ch hs inp ty er wy wd rf lt ln (nI 0) tr mv fo sp wr td) := hD
  subst hQ
  exact ret_i hx hb hr hlk () rfl hP hD hS rfl dX5_errorPosition_8
set_option maxHeartbeats 4000000 in
set_option maxRecDepth 100000 in
theorem m_X5_refusal (l : Launch) (G : GG) (mh : Nat) (md : Nat → Nat) (nr : Nat) (nc : Nat) (pL : Nat → Nat) (pG : Nat → Nat) (pB : Nat → Bool) (pk : Nat → Int32) (bf : Nat → Int32) (hi : Nat → Int32) (sv : Nat → Int32) (ch : Nat) (hs : Bool) (inp : Nat → Nat) (ty : Nat) (er : Int32) (wy : Int32) (wd : Int32) (rf : Bool) (lt : Nat → Nat) (ln : Nat) (th : Int32) (tr : Nat → Nat) (mv : Nat → Nat) (fo : Int32) (sp : Nat) (wr : Bool) (td : Nat → Int32) (rb : Bool)  : MM l G yX5_refusal cX5_refusal 2 (some .int) ⟨1, 0, 0, 21⟩ [.ref mh, .int (bI rb)] (MW G mh md nr nc pL pG pB pk bf hi sv ch hs inp ty er wy wd rf lt ln th tr mv fo sp wr td) (Qi_ G (fun (r : Int32) (u : (Bool)) => r = (if wy = 0 then nI 0 else if rb = true then wd else wy)) (fun (u : (Bool)) => (MW G mh md nr nc pL pG pB pk bf hi sv ch hs inp ty er wy wd u lt ln (if wy = 0 then nI 1 else nI 0) tr mv fo sp wr td))) := by
  refine MM.of (by decide) (Nat.le_of_ble_eq_true rfl) ?_
  intro p e s m args below meth cd A C hini hA hK hZ hP hD ls hl
  generalize hQ : MQ below ((Qi_ G (fun (r : Int32) (u : (Bool)) => r = (if wy = 0 then nI 0 else if rb = true then wd else wy)) (fun (u : (Bool)) => (MW G mh md nr nc pL pG pB pk bf hi sv ch hs inp ty er wy wd u lt ln (if wy = 0 then nI 1 else nI 0) tr mv fo sp wr td))) A) args s (⟨1, 0, 0, 21⟩ : Room).cells (⟨1, 0, 0, 21⟩ : Room).slots A = Q
  obtain ⟨hx, hb, hr, hts, hown, hlk, hml⟩ := C
  have hown : s.vm.findClass RX5 = some m.cls := hown
  have hS : va_S A s.heap s.heap [] := va_S.rf
  have hl : lv_has ls 2 [(0, .ref mh), (1, .int (bI rb))] := hl
  refine lv_aload_n hx hb dX5_refusal_0 rfl (lv_at hl 0 rfl) ?_
  refine va_get (D := G.1) (ci := 4) (v := .int wy) (C := RX5) (T := TX5) (N := 21) hx hb hts in_X5 hown hK hP 0 rfl rfl 9 (by decide) (hts _ q1736) (fun _ h9 => h9) rfl dX5_refusal_1 ?_
  refine lv_if_ne (tgt := 15) hx hb dX5_refusal_4 (by decide) (fun c4 => ?_) (fun c4 => ?_)
  · skip
    refine lv_aload_n hx hb dX5_refusal_15 rfl (lv_at hl 0 rfl) ?_
    refine lv_iload_n hx hb dX5_refusal_16 rfl (lv_at hl 1 rfl) ?_
    refine b_if_eq (tgt := 27) hx hb dX5_refusal_17 (by decide) (fun c17 => ?_) (fun c17 => ?_)
    · skip
      refine lv_aload_n hx hb dX5_refusal_27 rfl (lv_at hl 0 rfl) ?_
      refine va_get (D := G.1) (ci := 4) (v := .int wy) (C := RX5) (T := TX5) (N := 21) hx hb hts in_X5 hown hK hP 0 rfl rfl 9 (by decide) (hts _ q1736) (fun _ h9 => h9) rfl dX5_refusal_28 ?_
      refine callVi (As := [.int wy]) (rest := []) (wc := (MW G mh md nr nc pL pG pB pk bf hi sv ch hs inp ty er wy wd rf lt ln th tr mv fo sp wr td)) (wr := ([] : va_W)) ⟨hx, hb, hml, hown, hts⟩ (m_X5_done l G mh md nr nc pL pG pB pk bf hi sv ch hs inp ty er wy wd rf lt ln th tr mv fo sp wr td wy ) (cwV 1 hts (lw_V q1821 q1823 qs39 q105 q1824) rfl rfl rfl (by decide +kernel) ⟨Nat.le_of_ble_eq_true rfl, Nat.le_of_ble_eq_true rfl⟩) hK hZ hA hP hD hS [0, 1, 2, 3, 4, 5, 6, 7, 8, 9] [] rfl rfl (by decide) (by decide) (by decide) 0 4 rfl rfl rfl hl.1 (Nat.le_of_ble_eq_true rfl) ⟨Nat.le_of_ble_eq_true rfl, Nat.le_of_ble_eq_true rfl⟩ rfl dX5_refusal_31 (fun r9 u9 H locs hw9 hP hD hS => ?_)
      subst r9
      have hP : va_P G.1 CL (MW G mh md nr nc pL pG pB pk bf hi sv ch hs inp ty er wy wd rf lt ln (nI 0) tr mv fo sp wr td) _ := hP
      have hD : va_D A (MW G mh md nr nc pL pG pB pk bf hi sv ch hs inp ty er wy wd rf lt ln (nI 0) tr mv fo sp wr td) := hD
      have e_th : (nI 0) = (if wy = 0 then nI 1 else nI 0) := (if_neg c4).symm
      rw [e_th] at hP hD
      subst hQ
      exact ret_i hx hb hr hlk rf (by rw [if_neg c4, if_neg (by rw [c17]; decide)]) hP hD hS rfl dX5_refusal_34
    · skip
      refine lv_aload_n hx hb dX5_refusal_20 rfl (lv_at hl 0 rfl) ?_
      refine va_get (D := G.1) (ci := 4) (v := .int wd) (C := RX5) (T := TX5) (N := 21) hx hb hts in_X5 hown hK hP 0 rfl rfl 10 (by decide) (hts _ q1737) (fun _ h9 => h9) rfl dX5_refusal_21 ?_
      refine lv_goto (tgt := 31) hx hb dX5_refusal_24 (by decide) ?_
      refine callVi (As := [.int wd]) (rest := []) (wc := (MW G mh md nr nc pL pG pB pk bf hi sv ch hs inp ty er wy wd rf lt ln th tr mv fo sp wr td)) (wr := ([] : va_W)) ⟨hx, hb, hml, hown, hts⟩ (m_X5_done l G mh md nr nc pL pG pB pk bf hi sv ch hs inp ty er wy wd rf lt ln th tr mv fo sp wr td wd ) (cwV 1 hts (lw_V q1821 q1823 qs39 q105 q1824) rfl rfl rfl (by decide +kernel) ⟨Nat.le_of_ble_eq_true rfl, Nat.le_of_ble_eq_true rfl⟩) hK hZ hA hP hD hS [0, 1, 2, 3, 4, 5, 6, 7, 8, 9] [] rfl rfl (by decide) (by decide) (by decide) 0 4 rfl rfl rfl hl.1 (Nat.le_of_ble_eq_true rfl) ⟨Nat.le_of_ble_eq_true rfl, Nat.le_of_ble_eq_true rfl⟩ rfl dX5_refusal_31 (fun r9 u9 H locs hw9 hP hD hS => ?_)
      subst r9
      have hP : va_P G.1 CL (MW G mh md nr nc pL pG pB pk bf hi sv ch hs inp ty er wy wd rf lt ln (nI 0) tr mv fo sp wr td) _ := hP
      have hD : va_D A (MW G mh md nr nc pL pG pB pk bf hi sv ch hs inp ty er wy wd rf lt ln (nI 0) tr mv fo sp wr td) := hD
      have e_th : (nI 0) = (if wy = 0 then nI 1 else nI 0) := (if_neg c4).symm
      rw [e_th] at hP hD
      subst hQ
      exact ret_i hx hb hr hlk rf (by rw [if_neg c4, if_pos c17]) hP hD hS rfl dX5_refusal_34
  · skip
    refine lv_aload_n hx hb dX5_refusal_7 rfl (lv_at hl 0 rfl) ?_
    refine lv_iconst (v := nI 1) hx hb dX5_refusal_8 (by decide) ?_
    refine callVi (As := [.int (nI 1)]) (rest := []) (wc := (MW G mh md nr nc pL pG pB pk bf hi sv ch hs inp ty er wy wd rf lt ln th tr mv fo sp wr td)) (wr := ([] : va_W)) ⟨hx, hb, hml, hown, hts⟩ (m_X5_fails l G mh md nr nc pL pG pB pk bf hi sv ch hs inp ty er wy wd rf lt ln th tr mv fo sp wr td (nI 1) ) (cwV 1 hts (lw_V q1813 q1815 qs37 q105 q1816) rfl rfl rfl (by decide +kernel) ⟨Nat.le_of_ble_eq_true rfl, Nat.le_of_ble_eq_true rfl⟩) hK hZ hA hP hD hS [0, 1, 2, 3, 4, 5, 6, 7, 8, 9] [] rfl rfl (by decide) (by decide) (by decide) 0 4 rfl rfl rfl hl.1 (Nat.le_of_ble_eq_true rfl) ⟨Nat.le_of_ble_eq_true rfl, Nat.le_of_ble_eq_true rfl⟩ rfl dX5_refusal_9 (fun r9 u9 H locs hw9 hP hD hS => ?_)
    subst hw9
    have hP : va_P G.1 CL (MW G mh md nr nc pL pG pB pk bf hi sv ch hs inp ty er wy wd false lt ln (nI 1) tr mv fo sp wr td) _ := hP
    have hD : va_D A (MW G mh md nr nc pL pG pB pk bf hi sv ch hs inp ty er wy wd false lt ln (nI 1) tr mv fo sp wr td) := hD
    refine lv_goto (tgt := 34) hx hb dX5_refusal_12 (by decide) ?_
    have e_th : (nI 1) = (if wy = 0 then nI 1 else nI 0) := (if_pos c4).symm
    rw [e_th] at hP hD
    subst hQ
    exact ret_i hx hb hr hlk false (if_pos c4).symm hP hD hS rfl dX5_refusal_34
set_option maxHeartbeats 4000000 in
set_option maxRecDepth 100000 in
theorem m_X5_account (l : Launch) (G : GG) (mh : Nat) (md : Nat → Nat) (nr : Nat) (nc : Nat) (pL : Nat → Nat) (pG : Nat → Nat) (pB : Nat → Bool) (pk : Nat → Int32) (bf : Nat → Int32) (hi : Nat → Int32) (sv : Nat → Int32) (ch : Nat) (hs : Bool) (inp : Nat → Nat) (ty : Nat) (er : Int32) (wy : Int32) (wd : Int32) (rf : Bool) (lt : Nat → Nat) (ln : Nat) (th : Int32) (tr : Nat → Nat) (mv : Nat → Nat) (fo : Int32) (sp : Nat) (wr : Bool) (td : Nat → Int32) (wa : Int32) (hd : 2 ≤ nr ∧ nr ≤ 3 ∧ 2 ≤ nc ∧ nc ≤ 3) : MM l G yX5_account cX5_account 2 (some .int) ⟨2, 0, 0, 42⟩ [.ref mh, .int wa] (MW G mh md nr nc pL pG pB pk bf hi sv ch hs inp ty er wy wd rf lt ln th tr mv fo sp wr td) (Qi_ G (fun (r : Int32) (u : (Bool)) => r = (acV nr nc pB pk ty ch wa)) (fun (u : (Bool)) => (MW G mh md nr nc pL pG pB pk bf hi sv ch hs inp ty er wy wd u lt ln (ac1 wa) tr mv fo sp wr td))) := by
  refine MM.of (by decide) (Nat.le_of_ble_eq_true rfl) ?_
  intro p e s m args below meth cd A C hini hA hK hZ hP hD ls hl
  generalize hQ : MQ below ((Qi_ G (fun (r : Int32) (u : (Bool)) => r = (acV nr nc pB pk ty ch wa)) (fun (u : (Bool)) => (MW G mh md nr nc pL pG pB pk bf hi sv ch hs inp ty er wy wd u lt ln (ac1 wa) tr mv fo sp wr td))) A) args s (⟨2, 0, 0, 42⟩ : Room).cells (⟨2, 0, 0, 42⟩ : Room).slots A = Q
  obtain ⟨hx, hb, hr, hts, hown, hlk, hml⟩ := C
  have hown : s.vm.findClass RX5 = some m.cls := hown
  have hS : va_S A s.heap s.heap [] := va_S.rf
  have hl : lv_has ls 2 [(0, .ref mh), (1, .int wa)] := hl
  have hmu := dm_mul hd
  refine lv_iload_n hx hb dX5_account_0 rfl (lv_at hl 1 rfl) ?_
  by_cases k1_0 : wa = nI 0
  · skip
    refine lv_tableIn (off := 55) (tgt := 56) hx hb dX5_account_1 (by rw [k1_0]; decide) (by rw [k1_0]; decide) (by rw [k1_0]; decide) (by decide) ?_
    subst k1_0
    refine lv_aload_n hx hb dX5_account_56 rfl (lv_at hl 0 rfl) ?_
    refine lv_aload_n hx hb dX5_account_57 rfl (lv_at hl 0 rfl) ?_
    refine callVi (As := []) (rest := [.ref mh]) (wc := (MW G mh md nr nc pL pG pB pk bf hi sv ch hs inp ty er wy wd rf lt ln th tr mv fo sp wr td)) (wr := ([] : va_W)) ⟨hx, hb, hml, hown, hts⟩ (m_X5_places l G mh md nr nc pL pG pB pk bf hi sv ch hs inp ty er wy wd rf lt ln th tr mv fo sp wr td ) (cwV 0 hts (lw_V q1817 q1819 qs38 q105 q1820) rfl rfl rfl (by decide +kernel) ⟨Nat.le_of_ble_eq_true rfl, Nat.le_of_ble_eq_true rfl⟩) hK hZ hA hP hD hS [0, 1, 2, 3, 4, 5, 6, 7, 8, 9] [] rfl rfl (by decide) (by decide) (by decide) 0 4 rfl rfl rfl hl.1 (Nat.le_of_ble_eq_true rfl) ⟨Nat.le_of_ble_eq_true rfl, Nat.le_of_ble_eq_true rfl⟩ rfl dX5_account_58 (fun r9 u9 H locs hw9 hP hD hS => ?_)
    subst hw9
    have hP : va_P G.1 CL (MW G mh md nr nc pL pG pB pk bf hi sv ch hs inp ty er wy wd rf lt ln th tr mv fo sp wr td) _ := hP
    have hD : va_D A (MW G mh md nr nc pL pG pB pk bf hi sv ch hs inp ty er wy wd rf lt ln th tr mv fo sp wr td) := hD
    refine callVi (As := [.int (nI (nr * nc))]) (rest := []) (wc := (MW G mh md nr nc pL pG pB pk bf hi sv ch hs inp ty er wy wd rf lt ln th tr mv fo sp wr td)) (wr := ([] : va_W)) ⟨hx, hb, hml, hown, hts⟩ (m_X5_done l G mh md nr nc pL pG pB pk bf hi sv ch hs inp ty er wy wd rf lt ln th tr mv fo sp wr td (nI (nr * nc)) ) (cwV 1 hts (lw_V q1821 q1823 qs39 q105 q1824) rfl rfl rfl (by decide +kernel) ⟨Nat.le_of_ble_eq_true rfl, Nat.le_of_ble_eq_true rfl⟩) hK hZ hA hP hD hS [0, 1, 2, 3, 4, 5, 6, 7, 8, 9] [] rfl rfl (by decide) (by decide) (by decide) 0 4 rfl rfl rfl hl.1 (Nat.le_of_ble_eq_true rfl) ⟨Nat.le_of_ble_eq_true rfl, Nat.le_of_ble_eq_true rfl⟩ rfl dX5_account_61 (fun r9 u9 H locs hw9 hP hD hS => ?_)
    subst hw9
    have hP : va_P G.1 CL (MW G mh md nr nc pL pG pB pk bf hi sv ch hs inp ty er wy wd rf lt ln (nI 0) tr mv fo sp wr td) _ := hP
    have hD : va_D A (MW G mh md nr nc pL pG pB pk bf hi sv ch hs inp ty er wy wd rf lt ln (nI 0) tr mv fo sp wr td) := hD
    have e_th : (nI 0) = (ac1 (nI 0)) := (by first | rfl | (unfold ac1; rw [if_neg (by simp only [not_or]; exact ⟨k1_0, k1_1, k1_2, k1_3, k1_4, k1_5, k1_6, k1_7, k1_8, k1_9⟩)]))
    rw [e_th] at hP hD
    subst hQ
    exact ret_i hx hb hr hlk rf rfl hP hD hS rfl dX5_account_64
  · skip
    by_cases k1_1 : wa = nI 1
    · skip
      refine lv_tableIn (off := 64) (tgt := 65) hx hb dX5_account_1 (by rw [k1_1]; decide) (by rw [k1_1]; decide) (by rw [k1_1]; decide) (by decide) ?_
      subst k1_1
      refine lv_aload_n hx hb dX5_account_65 rfl (lv_at hl 0 rfl) ?_
      refine lv_aload_n hx hb dX5_account_66 rfl (lv_at hl 0 rfl) ?_
      refine callVi (As := []) (rest := [.ref mh]) (wc := (MW G mh md nr nc pL pG pB pk bf hi sv ch hs inp ty er wy wd rf lt ln th tr mv fo sp wr td)) (wr := ([] : va_W)) ⟨hx, hb, hml, hown, hts⟩ (m_X5_barredLines l G mh md nr nc pL pG pB pk bf hi sv ch hs inp ty er wy wd rf lt ln th tr mv fo sp wr td (by first | assumption | omega)) (cwV 0 hts (lw_V q2011 q2013 qs70 q105 q2014) rfl rfl rfl (by decide +kernel) ⟨Nat.le_of_ble_eq_true rfl, Nat.le_of_ble_eq_true rfl⟩) hK hZ hA hP hD hS [0, 1, 2, 3, 4, 5, 6, 7, 8, 9] [] rfl rfl (by decide) (by decide) (by decide) 0 4 rfl rfl rfl hl.1 (Nat.le_of_ble_eq_true rfl) ⟨Nat.le_of_ble_eq_true rfl, Nat.le_of_ble_eq_true rfl⟩ rfl dX5_account_67 (fun r9 u9 H locs hw9 hP hD hS => ?_)
      subst hw9
      have hP : va_P G.1 CL (MW G mh md nr nc pL pG pB pk bf hi sv ch hs inp ty er wy wd rf lt ln th tr mv fo sp wr td) _ := hP
      have hD : va_D A (MW G mh md nr nc pL pG pB pk bf hi sv ch hs inp ty er wy wd rf lt ln th tr mv fo sp wr td) := hD
      refine callVi (As := [.int (nI (cn pB (nr + nc)))]) (rest := []) (wc := (MW G mh md nr nc pL pG pB pk bf hi sv ch hs inp ty er wy wd rf lt ln th tr mv fo sp wr td)) (wr := ([] : va_W)) ⟨hx, hb, hml, hown, hts⟩ (m_X5_done l G mh md nr nc pL pG pB pk bf hi sv ch hs inp ty er wy wd rf lt ln th tr mv fo sp wr td (nI (cn pB (nr + nc))) ) (cwV 1 hts (lw_V q1821 q1823 qs39 q105 q1824) rfl rfl rfl (by decide +kernel) ⟨Nat.le_of_ble_eq_true rfl, Nat.le_of_ble_eq_true rfl⟩) hK hZ hA hP hD hS [0, 1, 2, 3, 4, 5, 6, 7, 8, 9] [] rfl rfl (by decide) (by decide) (by decide) 0 4 rfl rfl rfl hl.1 (Nat.le_of_ble_eq_true rfl) ⟨Nat.le_of_ble_eq_true rfl, Nat.le_of_ble_eq_true rfl⟩ rfl dX5_account_70 (fun r9 u9 H locs hw9 hP hD hS => ?_)
      subst hw9
      have hP : va_P G.1 CL (MW G mh md nr nc pL pG pB pk bf hi sv ch hs inp ty er wy wd rf lt ln (nI 0) tr mv fo sp wr td) _ := hP
      have hD : va_D A (MW G mh md nr nc pL pG pB pk bf hi sv ch hs inp ty er wy wd rf lt ln (nI 0) tr mv fo sp wr td) := hD
      have e_th : (nI 0) = (ac1 (nI 1)) := (by first | rfl | (unfold ac1; rw [if_neg (by simp only [not_or]; exact ⟨k1_0, k1_1, k1_2, k1_3, k1_4, k1_5, k1_6, k1_7, k1_8, k1_9⟩)]))
      rw [e_th] at hP hD
      subst hQ
      exact ret_i hx hb hr hlk rf rfl hP hD hS rfl dX5_account_73
    · skip
      by_cases k1_2 : wa = nI 2
      · skip
        refine lv_tableIn (off := 73) (tgt := 74) hx hb dX5_account_1 (by rw [k1_2]; decide) (by rw [k1_2]; decide) (by rw [k1_2]; decide) (by decide) ?_
        subst k1_2
        refine lv_aload_n hx hb dX5_account_74 rfl (lv_at hl 0 rfl) ?_
        refine lv_aload_n hx hb dX5_account_75 rfl (lv_at hl 0 rfl) ?_
        refine va_get (D := G.1) (ci := 4) (v := .ref (md 0)) (C := RX5) (T := TX5) (N := 21) hx hb hts in_X5 hown hK hP 0 rfl rfl 0 (by decide) (hts _ q1727) (fun _ h9 => h9) rfl dX5_account_76 ?_
        refine lv_iload_n hx hb dX5_account_79 rfl (lv_at hl 1 rfl) ?_
        refine r_iald hx hb hK hP 1 3 rfl rfl (by omega) (by decide) dX5_account_80 ?_
        refine eq_i (y := (pk 0)) rfl ?_
        refine callVi (As := [.int (pk 0)]) (rest := []) (wc := (MW G mh md nr nc pL pG pB pk bf hi sv ch hs inp ty er wy wd rf lt ln th tr mv fo sp wr td)) (wr := ([] : va_W)) ⟨hx, hb, hml, hown, hts⟩ (m_X5_done l G mh md nr nc pL pG pB pk bf hi sv ch hs inp ty er wy wd rf lt ln th tr mv fo sp wr td (pk 0) ) (cwV 1 hts (lw_V q1821 q1823 qs39 q105 q1824) rfl rfl rfl (by decide +kernel) ⟨Nat.le_of_ble_eq_true rfl, Nat.le_of_ble_eq_true rfl⟩) hK hZ hA hP hD hS [0, 1, 2, 3, 4, 5, 6, 7, 8, 9] [] rfl rfl (by decide) (by decide) (by decide) 0 4 rfl rfl rfl hl.1 (Nat.le_of_ble_eq_true rfl) ⟨Nat.le_of_ble_eq_true rfl, Nat.le_of_ble_eq_true rfl⟩ rfl dX5_account_81 (fun r9 u9 H locs hw9 hP hD hS => ?_)
        subst hw9
        have hP : va_P G.1 CL (MW G mh md nr nc pL pG pB pk bf hi sv ch hs inp ty er wy wd rf lt ln (nI 0) tr mv fo sp wr td) _ := hP
        have hD : va_D A (MW G mh md nr nc pL pG pB pk bf hi sv ch hs inp ty er wy wd rf lt ln (nI 0) tr mv fo sp wr td) := hD
        have e_th : (nI 0) = (ac1 (nI 2)) := (by first | rfl | (unfold ac1; rw [if_neg (by simp only [not_or]; exact ⟨k1_0, k1_1, k1_2, k1_3, k1_4, k1_5, k1_6, k1_7, k1_8, k1_9⟩)]))
        rw [e_th] at hP hD
        subst hQ
        exact ret_i hx hb hr hlk rf rfl hP hD hS rfl dX5_account_84
      · skip
        by_cases k1_3 : wa = nI 3
        · skip
          refine lv_tableIn (off := 73) (tgt := 74) hx hb dX5_account_1 (by rw [k1_3]; decide) (by rw [k1_3]; decide) (by rw [k1_3]; decide) (by decide) ?_
          subst k1_3
          refine lv_aload_n hx hb dX5_account_74 rfl (lv_at hl 0 rfl) ?_
          refine lv_aload_n hx hb dX5_account_75 rfl (lv_at hl 0 rfl) ?_
          refine va_get (D := G.1) (ci := 4) (v := .ref (md 0)) (C := RX5) (T := TX5) (N := 21) hx hb hts in_X5 hown hK hP 0 rfl rfl 0 (by decide) (hts _ q1727) (fun _ h9 => h9) rfl dX5_account_76 ?_
          refine lv_iload_n hx hb dX5_account_79 rfl (lv_at hl 1 rfl) ?_
          refine r_iald hx hb hK hP 1 3 rfl rfl (by omega) (by decide) dX5_account_80 ?_
          refine eq_i (y := (pk 1)) rfl ?_
          refine callVi (As := [.int (pk 1)]) (rest := []) (wc := (MW G mh md nr nc pL pG pB pk bf hi sv ch hs inp ty er wy wd rf lt ln th tr mv fo sp wr td)) (wr := ([] : va_W)) ⟨hx, hb, hml, hown, hts⟩ (m_X5_done l G mh md nr nc pL pG pB pk bf hi sv ch hs inp ty er wy wd rf lt ln th tr mv fo sp wr td (pk 1) ) (cwV 1 hts (lw_V q1821 q1823 qs39 q105 q1824) rfl rfl rfl (by decide +kernel) ⟨Nat.le_of_ble_eq_true rfl, Nat.le_of_ble_eq_true rfl⟩) hK hZ hA hP hD hS [0, 1, 2, 3, 4, 5, 6, 7, 8, 9] [] rfl rfl (by decide) (by decide) (by decide) 0 4 rfl rfl rfl hl.1 (Nat.le_of_ble_eq_true rfl) ⟨Nat.le_of_ble_eq_true rfl, Nat.le_of_ble_eq_true rfl⟩ rfl dX5_account_81 (fun r9 u9 H locs hw9 hP hD hS => ?_)
          subst hw9
          have hP : va_P G.1 CL (MW G mh md nr nc pL pG pB pk bf hi sv ch hs inp ty er wy wd rf lt ln (nI 0) tr mv fo sp wr td) _ := hP
          have hD : va_D A (MW G mh md nr nc pL pG pB pk bf hi sv ch hs inp ty er wy wd rf lt ln (nI 0) tr mv fo sp wr td) := hD
          have e_th : (nI 0) = (ac1 (nI 3)) := (by first | rfl | (unfold ac1; rw [if_neg (by simp only [not_or]; exact ⟨k1_0, k1_1, k1_2, k1_3, k1_4, k1_5, k1_6, k1_7, k1_8, k1_9⟩)]))
          rw [e_th] at hP hD
          subst hQ
          exact ret_i hx hb hr hlk rf rfl hP hD hS rfl dX5_account_84
        · skip
          by_cases k1_4 : wa = nI 4
          · skip
            refine lv_tableIn (off := 73) (tgt := 74) hx hb dX5_account_1 (by rw [k1_4]; decide) (by rw [k1_4]; decide) (by rw [k1_4]; decide) (by decide) ?_
            subst k1_4
            refine lv_aload_n hx hb dX5_account_74 rfl (lv_at hl 0 rfl) ?_
            refine lv_aload_n hx hb dX5_account_75 rfl (lv_at hl 0 rfl) ?_
            refine va_get (D := G.1) (ci := 4) (v := .ref (md 0)) (C := RX5) (T := TX5) (N := 21) hx hb hts in_X5 hown hK hP 0 rfl rfl 0 (by decide) (hts _ q1727) (fun _ h9 => h9) rfl dX5_account_76 ?_
            refine lv_iload_n hx hb dX5_account_79 rfl (lv_at hl 1 rfl) ?_
            refine r_iald hx hb hK hP 1 3 rfl rfl (by omega) (by decide) dX5_account_80 ?_
            refine eq_i (y := (pk 2)) rfl ?_
            refine callVi (As := [.int (pk 2)]) (rest := []) (wc := (MW G mh md nr nc pL pG pB pk bf hi sv ch hs inp ty er wy wd rf lt ln th tr mv fo sp wr td)) (wr := ([] : va_W)) ⟨hx, hb, hml, hown, hts⟩ (m_X5_done l G mh md nr nc pL pG pB pk bf hi sv ch hs inp ty er wy wd rf lt ln th tr mv fo sp wr td (pk 2) ) (cwV 1 hts (lw_V q1821 q1823 qs39 q105 q1824) rfl rfl rfl (by decide +kernel) ⟨Nat.le_of_ble_eq_true rfl, Nat.le_of_ble_eq_true rfl⟩) hK hZ hA hP hD hS [0, 1, 2, 3, 4, 5, 6, 7, 8, 9] [] rfl rfl (by decide) (by decide) (by decide) 0 4 rfl rfl rfl hl.1 (Nat.le_of_ble_eq_true rfl) ⟨Nat.le_of_ble_eq_true rfl, Nat.le_of_ble_eq_true rfl⟩ rfl dX5_account_81 (fun r9 u9 H locs hw9 hP hD hS => ?_)
            subst hw9
            have hP : va_P G.1 CL (MW G mh md nr nc pL pG pB pk bf hi sv ch hs inp ty er wy wd rf lt ln (nI 0) tr mv fo sp wr td) _ := hP
            have hD : va_D A (MW G mh md nr nc pL pG pB pk bf hi sv ch hs inp ty er wy wd rf lt ln (nI 0) tr mv fo sp wr td) := hD
            have e_th : (nI 0) = (ac1 (nI 4)) := (by first | rfl | (unfold ac1; rw [if_neg (by simp only [not_or]; exact ⟨k1_0, k1_1, k1_2, k1_3, k1_4, k1_5, k1_6, k1_7, k1_8, k1_9⟩)]))
            rw [e_th] at hP hD
            subst hQ
            exact ret_i hx hb hr hlk rf rfl hP hD hS rfl dX5_account_84
          · skip
            by_cases k1_5 : wa = nI 5
            · skip
              refine lv_tableIn (off := 73) (tgt := 74) hx hb dX5_account_1 (by rw [k1_5]; decide) (by rw [k1_5]; decide) (by rw [k1_5]; decide) (by decide) ?_
              subst k1_5
              refine lv_aload_n hx hb dX5_account_74 rfl (lv_at hl 0 rfl) ?_
              refine lv_aload_n hx hb dX5_account_75 rfl (lv_at hl 0 rfl) ?_
              refine va_get (D := G.1) (ci := 4) (v := .ref (md 0)) (C := RX5) (T := TX5) (N := 21) hx hb hts in_X5 hown hK hP 0 rfl rfl 0 (by decide) (hts _ q1727) (fun _ h9 => h9) rfl dX5_account_76 ?_
              refine lv_iload_n hx hb dX5_account_79 rfl (lv_at hl 1 rfl) ?_
              refine r_iald hx hb hK hP 1 3 rfl rfl (by omega) (by decide) dX5_account_80 ?_
              refine eq_i (y := (pk 3)) rfl ?_
              refine callVi (As := [.int (pk 3)]) (rest := []) (wc := (MW G mh md nr nc pL pG pB pk bf hi sv ch hs inp ty er wy wd rf lt ln th tr mv fo sp wr td)) (wr := ([] : va_W)) ⟨hx, hb, hml, hown, hts⟩ (m_X5_done l G mh md nr nc pL pG pB pk bf hi sv ch hs inp ty er wy wd rf lt ln th tr mv fo sp wr td (pk 3) ) (cwV 1 hts (lw_V q1821 q1823 qs39 q105 q1824) rfl rfl rfl (by decide +kernel) ⟨Nat.le_of_ble_eq_true rfl, Nat.le_of_ble_eq_true rfl⟩) hK hZ hA hP hD hS [0, 1, 2, 3, 4, 5, 6, 7, 8, 9] [] rfl rfl (by decide) (by decide) (by decide) 0 4 rfl rfl rfl hl.1 (Nat.le_of_ble_eq_true rfl) ⟨Nat.le_of_ble_eq_true rfl, Nat.le_of_ble_eq_true rfl⟩ rfl dX5_account_81 (fun r9 u9 H locs hw9 hP hD hS => ?_)
              subst hw9
              have hP : va_P G.1 CL (MW G mh md nr nc pL pG pB pk bf hi sv ch hs inp ty er wy wd rf lt ln (nI 0) tr mv fo sp wr td) _ := hP
              have hD : va_D A (MW G mh md nr nc pL pG pB pk bf hi sv ch hs inp ty er wy wd rf lt ln (nI 0) tr mv fo sp wr td) := hD
              have e_th : (nI 0) = (ac1 (nI 5)) := (by first | rfl | (unfold ac1; rw [if_neg (by simp only [not_or]; exact ⟨k1_0, k1_1, k1_2, k1_3, k1_4, k1_5, k1_6, k1_7, k1_8, k1_9⟩)]))
              rw [e_th] at hP hD
              subst hQ
              exact ret_i hx hb hr hlk rf rfl hP hD hS rfl dX5_account_84
            · skip
              by_cases k1_6 : wa = nI 6
              · skip
                refine lv_tableIn (off := 73) (tgt := 74) hx hb dX5_account_1 (by rw [k1_6]; decide) (by rw [k1_6]; decide) (by rw [k1_6]; decide) (by decide) ?_
                subst k1_6
                refine lv_aload_n hx hb dX5_account_74 rfl (lv_at hl 0 rfl) ?_
                refine lv_aload_n hx hb dX5_account_75 rfl (lv_at hl 0 rfl) ?_
                refine va_get (D := G.1) (ci := 4) (v := .ref (md 0)) (C := RX5) (T := TX5) (N := 21) hx hb hts in_X5 hown hK hP 0 rfl rfl 0 (by decide) (hts _ q1727) (fun _ h9 => h9) rfl dX5_account_76 ?_
                refine lv_iload_n hx hb dX5_account_79 rfl (lv_at hl 1 rfl) ?_
                refine r_iald hx hb hK hP 1 3 rfl rfl (by omega) (by decide) dX5_account_80 ?_
                refine eq_i (y := (pk 4)) rfl ?_
                refine callVi (As := [.int (pk 4)]) (rest := []) (wc := (MW G mh md nr nc pL pG pB pk bf hi sv ch hs inp ty er wy wd rf lt ln th tr mv fo sp wr td)) (wr := ([] : va_W)) ⟨hx, hb, hml, hown, hts⟩ (m_X5_done l G mh md nr nc pL pG pB pk bf hi sv ch hs inp ty er wy wd rf lt ln th tr mv fo sp wr td (pk 4) ) (cwV 1 hts (lw_V q1821 q1823 qs39 q105 q1824) rfl rfl rfl (by decide +kernel) ⟨Nat.le_of_ble_eq_true rfl, Nat.le_of_ble_eq_true rfl⟩) hK hZ hA hP hD hS [0, 1, 2, 3, 4, 5, 6, 7, 8, 9] [] rfl rfl (by decide) (by decide) (by decide) 0 4 rfl rfl rfl hl.1 (Nat.le_of_ble_eq_true rfl) ⟨Nat.le_of_ble_eq_true rfl, Nat.le_of_ble_eq_true rfl⟩ rfl dX5_account_81 (fun r9 u9 H locs hw9 hP hD hS => ?_)
                subst hw9
                have hP : va_P G.1 CL (MW G mh md nr nc pL pG pB pk bf hi sv ch hs inp ty er wy wd rf lt ln (nI 0) tr mv fo sp wr td) _ := hP
                have hD : va_D A (MW G mh md nr nc pL pG pB pk bf hi sv ch hs inp ty er wy wd rf lt ln (nI 0) tr mv fo sp wr td) := hD
                have e_th : (nI 0) = (ac1 (nI 6)) := (by first | rfl | (unfold ac1; rw [if_neg (by simp only [not_or]; exact ⟨k1_0, k1_1, k1_2, k1_3, k1_4, k1_5, k1_6, k1_7, k1_8, k1_9⟩)]))
                rw [e_th] at hP hD
                subst hQ
                exact ret_i hx hb hr hlk rf rfl hP hD hS rfl dX5_account_84
              · skip
                by_cases k1_7 : wa = nI 7
                · skip
                  refine lv_tableIn (off := 73) (tgt := 74) hx hb dX5_account_1 (by rw [k1_7]; decide) (by rw [k1_7]; decide) (by rw [k1_7]; decide) (by decide) ?_
                  subst k1_7
                  refine lv_aload_n hx hb dX5_account_74 rfl (lv_at hl 0 rfl) ?_
                  refine lv_aload_n hx hb dX5_account_75 rfl (lv_at hl 0 rfl) ?_
                  refine va_get (D := G.1) (ci := 4) (v := .ref (md 0)) (C := RX5) (T := TX5) (N := 21) hx hb hts in_X5 hown hK hP 0 rfl rfl 0 (by decide) (hts _ q1727) (fun _ h9 => h9) rfl dX5_account_76 ?_
                  refine lv_iload_n hx hb dX5_account_79 rfl (lv_at hl 1 rfl) ?_
                  refine r_iald hx hb hK hP 1 3 rfl rfl (by omega) (by decide) dX5_account_80 ?_
                  refine eq_i (y := (pk 5)) rfl ?_
                  refine callVi (As := [.int (pk 5)]) (rest := []) (wc := (MW G mh md nr nc pL pG pB pk bf hi sv ch hs inp ty er wy wd rf lt ln th tr mv fo sp wr td)) (wr := ([] : va_W)) ⟨hx, hb, hml, hown, hts⟩ (m_X5_done l G mh md nr nc pL pG pB pk bf hi sv ch hs inp ty er wy wd rf lt ln th tr mv fo sp wr td (pk 5) ) (cwV 1 hts (lw_V q1821 q1823 qs39 q105 q1824) rfl rfl rfl (by decide +kernel) ⟨Nat.le_of_ble_eq_true rfl, Nat.le_of_ble_eq_true rfl⟩) hK hZ hA hP hD hS [0, 1, 2, 3, 4, 5, 6, 7, 8, 9] [] rfl rfl (by decide) (by decide) (by decide) 0 4 rfl rfl rfl hl.1 (Nat.le_of_ble_eq_true rfl) ⟨Nat.le_of_ble_eq_true rfl, Nat.le_of_ble_eq_true rfl⟩ rfl dX5_account_81 (fun r9 u9 H locs hw9 hP hD hS => ?_)
                  subst hw9
                  have hP : va_P G.1 CL (MW G mh md nr nc pL pG pB pk bf hi sv ch hs inp ty er wy wd rf lt ln (nI 0) tr mv fo sp wr td) _ := hP
                  have hD : va_D A (MW G mh md nr nc pL pG pB pk bf hi sv ch hs inp ty er wy wd rf lt ln (nI 0) tr mv fo sp wr td) := hD
                  have e_th : (nI 0) = (ac1 (nI 7)) := (by first | rfl | (unfold ac1; rw [if_neg (by simp only [not_or]; exact ⟨k1_0, k1_1, k1_2, k1_3, k1_4, k1_5, k1_6, k1_7, k1_8, k1_9⟩)]))
                  rw [e_th] at hP hD
                  subst hQ
                  exact ret_i hx hb hr hlk rf rfl hP hD hS rfl dX5_account_84
                · skip
                  by_cases k1_8 : wa = nI 8
                  · skip
                    refine lv_tableIn (off := 84) (tgt := 85) hx hb dX5_account_1 (by rw [k1_8]; decide) (by rw [k1_8]; decide) (by rw [k1_8]; decide) (by decide) ?_
                    subst k1_8
                    refine lv_aload_n hx hb dX5_account_85 rfl (lv_at hl 0 rfl) ?_
                    refine lv_aload_n hx hb dX5_account_86 rfl (lv_at hl 0 rfl) ?_
                    refine va_get (D := G.1) (ci := 4) (v := .int (nI ty)) (C := RX5) (T := TX5) (N := 21) hx hb hts in_X5 hown hK hP 0 rfl rfl 7 (by decide) (hts _ q1734) (fun _ h9 => h9) rfl dX5_account_87 ?_
                    refine callVi (As := [.int (nI ty)]) (rest := []) (wc := (MW G mh md nr nc pL pG pB pk bf hi sv ch hs inp ty er wy wd rf lt ln th tr mv fo sp wr td)) (wr := ([] : va_W)) ⟨hx, hb, hml, hown, hts⟩ (m_X5_done l G mh md nr nc pL pG pB pk bf hi sv ch hs inp ty er wy wd rf lt ln th tr mv fo sp wr td (nI ty) ) (cwV 1 hts (lw_V q1821 q1823 qs39 q105 q1824) rfl rfl rfl (by decide +kernel) ⟨Nat.le_of_ble_eq_true rfl, Nat.le_of_ble_eq_true rfl⟩) hK hZ hA hP hD hS [0, 1, 2, 3, 4, 5, 6, 7, 8, 9] [] rfl rfl (by decide) (by decide) (by decide) 0 4 rfl rfl rfl hl.1 (Nat.le_of_ble_eq_true rfl) ⟨Nat.le_of_ble_eq_true rfl, Nat.le_of_ble_eq_true rfl⟩ rfl dX5_account_90 (fun r9 u9 H locs hw9 hP hD hS => ?_)
                    subst hw9
                    have hP : va_P G.1 CL (MW G mh md nr nc pL pG pB pk bf hi sv ch hs inp ty er wy wd rf lt ln (nI 0) tr mv fo sp wr td) _ := hP
                    have hD : va_D A (MW G mh md nr nc pL pG pB pk bf hi sv ch hs inp ty er wy wd rf lt ln (nI 0) tr mv fo sp wr td) := hD
                    have e_th : (nI 0) = (ac1 (nI 8)) := (by first | rfl | (unfold ac1; rw [if_neg (by simp only [not_or]; exact ⟨k1_0, k1_1, k1_2, k1_3, k1_4, k1_5, k1_6, k1_7, k1_8, k1_9⟩)]))
                    rw [e_th] at hP hD
                    subst hQ
                    exact ret_i hx hb hr hlk rf rfl hP hD hS rfl dX5_account_93
                  · skip
                    by_cases k1_9 : wa = nI 9
                    · skip
                      refine lv_tableIn (off := 93) (tgt := 94) hx hb dX5_account_1 (by rw [k1_9]; decide) (by rw [k1_9]; decide) (by rw [k1_9]; decide) (by decide) ?_
                      subst k1_9
                      refine lv_aload_n hx hb dX5_account_94 rfl (lv_at hl 0 rfl) ?_
                      refine lv_aload_n hx hb dX5_account_95 rfl (lv_at hl 0 rfl) ?_
                      refine va_get (D := G.1) (ci := 4) (v := .int (nI ch)) (C := RX5) (T := TX5) (N := 21) hx hb hts in_X5 hown hK hP 0 rfl rfl 3 (by decide) (hts _ q1730) (fun _ h9 => h9) rfl dX5_account_96 ?_
                      refine callVi (As := [.int (nI ch)]) (rest := []) (wc := (MW G mh md nr nc pL pG pB pk bf hi sv ch hs inp ty er wy wd rf lt ln th tr mv fo sp wr td)) (wr := ([] : va_W)) ⟨hx, hb, hml, hown, hts⟩ (m_X5_done l G mh md nr nc pL pG pB pk bf hi sv ch hs inp ty er wy wd rf lt ln th tr mv fo sp wr td (nI ch) ) (cwV 1 hts (lw_V q1821 q1823 qs39 q105 q1824) rfl rfl rfl (by decide +kernel) ⟨Nat.le_of_ble_eq_true rfl, Nat.le_of_ble_eq_true rfl⟩) hK hZ hA hP hD hS [0, 1, 2, 3, 4, 5, 6, 7, 8, 9] [] rfl rfl (by decide) (by decide) (by decide) 0 4 rfl rfl rfl hl.1 (Nat.le_of_ble_eq_true rfl) ⟨Nat.le_of_ble_eq_true rfl, Nat.le_of_ble_eq_true rfl⟩ rfl dX5_account_99 (fun r9 u9 H locs hw9 hP hD hS => ?_)
                      subst hw9
                      have hP : va_P G.1 CL (MW G mh md nr nc pL pG pB pk bf hi sv ch hs inp ty er wy wd rf lt ln (nI 0) tr mv fo sp wr td) _ := hP
                      have hD : va_D A (MW G mh md nr nc pL pG pB pk bf hi sv ch hs inp ty er wy wd rf lt ln (nI 0) tr mv fo sp wr td) := hD
                      have e_th : (nI 0) = (ac1 (nI 9)) := (by first | rfl | (unfold ac1; rw [if_neg (by simp only [not_or]; exact ⟨k1_0, k1_1, k1_2, k1_3, k1_4, k1_5, k1_6, k1_7, k1_8, k1_9⟩)]))
                      rw [e_th] at hP hD
                      subst hQ
                      exact ret_i hx hb hr hlk rf rfl hP hD hS rfl dX5_account_102
                    · skip
                      refine lv_tableOut (tgt := 103) hx hb dX5_account_1 (by have := lv_neT k1_0 (show (nI 0 : Int32).toInt = 0 by decide); have := lv_neT k1_1 (show (nI 1 : Int32).toInt = 1 by decide); have := lv_neT k1_2 (show (nI 2 : Int32).toInt = 2 by decide); have := lv_neT k1_3 (show (nI 3 : Int32).toInt = 3 by decide); have := lv_neT k1_4 (show (nI 4 : Int32).toInt = 4 by decide); have := lv_neT k1_5 (show (nI 5 : Int32).toInt = 5 by decide); have := lv_neT k1_6 (show (nI 6 : Int32).toInt = 6 by decide); have := lv_neT k1_7 (show (nI 7 : Int32).toInt = 7 by decide); have := lv_neT k1_8 (show (nI 8 : Int32).toInt = 8 by decide); have := lv_neT k1_9 (show (nI 9 : Int32).toInt = 9 by decide); omega) (by decide) ?_
                      refine lv_aload_n hx hb dX5_account_103 rfl (lv_at hl 0 rfl) ?_
                      refine lv_iconst (v := nI 1) hx hb dX5_account_104 (by decide) ?_
                      refine callVi (As := [.int (nI 1)]) (rest := []) (wc := (MW G mh md nr nc pL pG pB pk bf hi sv ch hs inp ty er wy wd rf lt ln th tr mv fo sp wr td)) (wr := ([] : va_W)) ⟨hx, hb, hml, hown, hts⟩ (m_X5_fails l G mh md nr nc pL pG pB pk bf hi sv ch hs inp ty er wy wd rf lt ln th tr mv fo sp wr td (nI 1) ) (cwV 1 hts (lw_V q1813 q1815 qs37 q105 q1816) rfl rfl rfl (by decide +kernel) ⟨Nat.le_of_ble_eq_true rfl, Nat.le_of_ble_eq_true rfl⟩) hK hZ hA hP hD hS [0, 1, 2, 3, 4, 5, 6, 7, 8, 9] [] rfl rfl (by decide) (by decide) (by decide) 0 4 rfl rfl rfl hl.1 (Nat.le_of_ble_eq_true rfl) ⟨Nat.le_of_ble_eq_true rfl, Nat.le_of_ble_eq_true rfl⟩ rfl dX5_account_105 (fun r9 u9 H locs hw9 hP hD hS => ?_)
                      subst hw9
                      have hP : va_P G.1 CL (MW G mh md nr nc pL pG pB pk bf hi sv ch hs inp ty er wy wd false lt ln (nI 1) tr mv fo sp wr td) _ := hP
                      have hD : va_D A (MW G mh md nr nc pL pG pB pk bf hi sv ch hs inp ty er wy wd false lt ln (nI 1) tr mv fo sp wr td) := hD
                      have e_th : (nI 1) = (ac1 wa) := (by first | rfl | (unfold ac1; rw [if_neg (by simp only [not_or]; exact ⟨k1_0, k1_1, k1_2, k1_3, k1_4, k1_5, k1_6, k1_7, k1_8, k1_9⟩)]))
                      rw [e_th] at hP hD
                      subst hQ
                      exact ret_i hx hb hr hlk false (by unfold acV; rw [if_neg k1_0, if_neg k1_1, if_neg k1_2, if_neg k1_3, if_neg k1_4, if_neg k1_5, if_neg k1_6, if_neg k1_7, if_neg k1_8, if_neg k1_9]) hP hD hS rfl dX5_account_108
set_option maxHeartbeats 4000000 in
set_option maxRecDepth 100000 in
theorem m_X5_isWell (l : Launch) (G : GG) (mh : Nat) (md : Nat → Nat) (nr : Nat) (nc : Nat) (pL : Nat → Nat) (pG : Nat → Nat) (pB : Nat → Bool) (pk : Nat → Int32) (bf : Nat → Int32) (hi : Nat → Int32) (sv : Nat → Int32) (ch : Nat) (hs : Bool) (inp : Nat → Nat) (ty : Nat) (er : Int32) (wy : Int32) (wd : Int32) (rf : Bool) (lt : Nat → Nat) (ln : Nat) (th : Int32) (tr : Nat → Nat) (mv : Nat → Nat) (fo : Int32) (sp : Nat) (wr : Bool) (td : Nat → Int32)  : MM l G yX5_isWell cX5_isWell 1 (some .boolean) ⟨0, 0, 0, 0⟩ [.ref mh] (MW G mh md nr nc pL pG pB pk bf hi sv ch hs inp ty er wy wd rf lt ln th tr mv fo sp wr td) (Qi_ G (fun (r : Int32) (_ : Unit) => r = bI true) (fun (_ : Unit) => (MW G mh md nr nc pL pG pB pk bf hi sv ch hs inp ty er wy wd rf lt ln (nI 0) tr mv fo sp wr td))) := by
  refine MM.of (by decide) (Nat.le_of_ble_eq_true rfl) ?_
  intro p e s m args below meth cd A C hini hA hK hZ hP hD ls hl
  generalize hQ : MQ below ((Qi_ G (fun (r : Int32) (_ : Unit) => r = bI true) (fun (_ : Unit) => (MW G mh md nr nc pL pG pB pk bf hi sv ch hs inp ty er wy wd rf lt ln (nI 0) tr mv fo sp wr td))) A) args s (⟨0, 0, 0, 0⟩ : Room).cells (⟨0, 0, 0, 0⟩ : Room).slots A = Q
  obtain ⟨hx, hb, hr, hts, hown, hlk, hml⟩ := C
  have hown : s.vm.findClass RX5 = some m.cls := hown
  have hS : va_S A s.heap s.heap [] := va_S.rf
  have hl : lv_has ls 1 [(0, .ref mh)] := hl
  refine lv_aload_n hx hb dX5_isWell_0 rfl (lv_at hl 0 rfl) ?_
  refine lv_iconst (v := nI 0) hx hb dX5_isWell_1 (by decide) ?_
  refine va_put (D := G.1) (ci := 4) (v := .int (nI 0)) (ty := .int) (C := RX5) (T := TX5) (N := 21) hx hb hts in_X5 tyX5 tyX5_ok nmX5 hown hK hP hD hS 0 rfl rfl 14 (by decide) (hts _ q1741) (fun _ h9 => h9) rfl (by decide +kernel) rfl rfl (Nat.le_of_ble_eq_true rfl) dX5_isWell_2 (fun H locs hP hD hS => ?_)
  have hP : va_P G.1 CL (MW G mh md nr nc pL pG pB pk bf hi sv ch hs inp ty er wy wd rf lt ln (nI 0) tr mv fo sp wr td) _ := hP
  have hD : va_D A (MW G mh md nr nc pL pG pB pk bf hi sv ch hs inp ty er wy wd rf lt ln (nI 0) tr mv fo sp wr td) := hD
  refine lv_iconst (v := nI 1) hx hb dX5_isWell_5 (by decide) ?_
  subst hQ
  exact ret_i hx hb hr hlk () (bI_1 rfl) hP hD hS rfl dX5_isWell_6
set_option maxHeartbeats 4000000 in
set_option maxRecDepth 100000 in
theorem m_X5_farFromHome (l : Launch) (G : GG) (mh : Nat) (md : Nat → Nat) (nr : Nat) (nc : Nat) (pL : Nat → Nat) (pG : Nat → Nat) (pB : Nat → Bool) (pk : Nat → Int32) (bf : Nat → Int32) (hi : Nat → Int32) (sv : Nat → Int32) (ch : Nat) (hs : Bool) (inp : Nat → Nat) (ty : Nat) (er : Int32) (wy : Int32) (wd : Int32) (rf : Bool) (lt : Nat → Nat) (ln : Nat) (th : Int32) (tr : Nat → Nat) (mv : Nat → Nat) (fo : Int32) (sp : Nat) (wr : Bool) (td : Nat → Int32) (pp : Nat) (hd : 2 ≤ nr ∧ nr ≤ 3 ∧ 2 ≤ nc ∧ nc ≤ 3) (hp0 : pp < nr * nc) (hLR : ∀ q, q < nr * nc → 97 ≤ pL q ∧ pL q ≤ 108) (hKR : ∀ q, q < nr * nc → pG q = 46 ∨ (97 ≤ pG q ∧ pG q ≤ 108)) : MM l G yX5_farFromHome cX5_farFromHome 5 (some .int) ⟨2, 0, 0, 46⟩ [.ref mh, .int (nI pp)] (MW G mh md nr nc pL pG pB pk bf hi sv ch hs inp ty er wy wd rf lt ln th tr mv fo sp wr td) (Qi_ G (fun (r : Int32) (_ : Unit) => r = (if fkN (nr * nc) pL pG pp = true then nI (faN nr nc pL pG pp) else -1)) (fun (_ : Unit) => (MW G mh md nr nc pL pG pB pk bf hi sv ch hs inp ty er wy wd rf lt ln th tr mv fo sp wr td))) := by
  refine MM.of (by decide) (Nat.le_of_ble_eq_true rfl) ?_
  intro p e s m args below meth cd A C hini hA hK hZ hP hD ls hl
  generalize hQ : MQ below ((Qi_ G (fun (r : Int32) (_ : Unit) => r = (if fkN (nr * nc) pL pG pp = true then nI (faN nr nc pL pG pp) else -1)) (fun (_ : Unit) => (MW G mh md nr nc pL pG pB pk bf hi sv ch hs inp ty er wy wd rf lt ln th tr mv fo sp wr td))) A) args s (⟨2, 0, 0, 46⟩ : Room).cells (⟨2, 0, 0, 46⟩ : Room).slots A = Q
  obtain ⟨hx, hb, hr, hts, hown, hlk, hml⟩ := C
  have hown : s.vm.findClass RX5 = some m.cls := hown
  have hS : va_S A s.heap s.heap [] := va_S.rf
  have hl : lv_has ls 5 [(0, .ref mh), (1, .int (nI pp))] := hl
  have hmu := dm_mul hd
  have hk9 := hKR pp hp0
  refine lv_aload_n hx hb dX5_farFromHome_0 rfl (lv_at hl 0 rfl) ?_
  refine va_get (D := G.1) (ci := 4) (v := .ref (md 0)) (C := RX5) (T := TX5) (N := 21) hx hb hts in_X5 hown hK hP 0 rfl rfl 0 (by decide) (hts _ q1727) (fun _ h9 => h9) rfl dX5_farFromHome_1 ?_
  refine lv_bipush (v := nI 23) hx hb dX5_farFromHome_4 (by decide) ?_
  refine lv_iload_n hx hb dX5_farFromHome_6 rfl (lv_at hl 1 rfl) ?_
  refine n_iadd hx hb dX5_farFromHome_7 ?_
  refine r_iald hx hb hK hP 1 3 rfl rfl (by omega) (by decide) dX5_farFromHome_8 ?_
  refine eq_i (y := (gk (pG pp))) (gZ_k (by omega)) ?_
  refine lv_istore_n (lv' := [(2, .int (gk (pG pp))), (0, .ref mh), (1, .int (nI pp))]) hx hb dX5_farFromHome_9 rfl hl (by decide) rfl (fun ls hl => ?_)
  refine lv_iconst (v := (-1)) hx hb dX5_farFromHome_10 (by decide) ?_
  refine lv_istore_n (lv' := [(3, .int (-1)), (2, .int (gk (pG pp))), (0, .ref mh), (1, .int (nI pp))]) hx hb dX5_farFromHome_11 rfl hl (by decide) rfl (fun ls hl => ?_)
  refine lv_iconst (v := nI 0) hx hb dX5_farFromHome_12 (by decide) ?_
  refine lv_istore (lv' := [(4, .int (nI 0)), (3, .int (-1)), (2, .int (gk (pG pp))), (0, .ref mh), (1, .int (nI pp))]) hx hb dX5_farFromHome_13 hl (by decide) rfl (fun ls hl => ?_)
  have lp15 : ∀ (f : Nat) (i : Nat) (b9 : Int32), nr * nc - i < f → (i ≤ nr * nc) → (b9 = if lx (fun q => decide (pG pp ≠ 46 ∧ pL q = pG pp)) 99 i < 99 then nI (farN nr nc (lx (fun q => decide (pG pp ≠ 46 ∧ pL q = pG pp)) 99 i) pp) else -1) → ∀ (H : Heap) (locs : List Loc) (ls : Array Slot), va_P G.1 CL (MW G mh md nr nc pL pG pB pk bf hi sv ch hs inp ty er wy wd rf lt ln th tr mv fo sp wr td) H → va_D A (MW G mh md nr nc pL pG pB pk bf hi sv ch hs inp ty er wy wd rf lt ln th tr mv fo sp wr td) → va_S A s.heap H locs → lv_has ls 5 [(4, .int (nI i)), (3, .int b9), (2, .int (gk (pG pp))), (0, .ref mh), (1, .int (nI pp))] → W p l e (⟨2, 0, 0, 46⟩ : Room) s m args below meth cd H locs 0 0 Q (F0 m 15 ls []) := by
    intro f
    induction f with
    | zero => intro i b9 hf; exact absurd hf (Nat.not_lt_zero _)
    | succ f ih15 =>
      intro i b9 hf hi9 hb9 H locs ls hP hD hS hl
      refine lv_iload hx hb dX5_farFromHome_15 (lv_at hl 0 rfl) ?_
      refine lv_aload_n hx hb dX5_farFromHome_17 rfl (lv_at hl 3 rfl) ?_
      refine callVi (As := []) (rest := [.int (nI i)]) (wc := (MW G mh md nr nc pL pG pB pk bf hi sv ch hs inp ty er wy wd rf lt ln th tr mv fo sp wr td)) (wr := ([] : va_W)) ⟨hx, hb, hml, hown, hts⟩ (m_X5_places l G mh md nr nc pL pG pB pk bf hi sv ch hs inp ty er wy wd rf lt ln th tr mv fo sp wr td ) (cwV 0 hts (lw_V q1817 q1819 qs38 q105 q1820) rfl rfl rfl (by decide +kernel) ⟨Nat.le_of_ble_eq_true rfl, Nat.le_of_ble_eq_true rfl⟩) hK hZ hA hP hD hS [0, 1, 2, 3, 4, 5, 6, 7, 8, 9] [] rfl rfl (by decide) (by decide) (by decide) 0 4 rfl rfl rfl hl.1 (Nat.le_of_ble_eq_true rfl) ⟨Nat.le_of_ble_eq_true rfl, Nat.le_of_ble_eq_true rfl⟩ rfl dX5_farFromHome_18 (fun r9 u9 H locs hw9 hP hD hS => ?_)
      subst hw9
      have hP : va_P G.1 CL (MW G mh md nr nc pL pG pB pk bf hi sv ch hs inp ty er wy wd rf lt ln th tr mv fo sp wr td) _ := hP
      have hD : va_D A (MW G mh md nr nc pL pG pB pk bf hi sv ch hs inp ty er wy wd rf lt ln th tr mv fo sp wr td) := hD
      refine n_cmp_ge (tgt := 67) hx hb dX5_farFromHome_21 (by decide) (by omega) (by omega) (fun c21 => ?_) (fun c21 => ?_)
      · skip
        refine lv_iload_n hx hb dX5_farFromHome_67 rfl (lv_at hl 2 rfl) ?_
        refine lv_iconst (v := (-1)) hx hb dX5_farFromHome_68 (by decide) ?_
        refine lv_icmp_eq (tgt := 87) hx hb dX5_farFromHome_69 (by decide) (fun c69 => ?_) (fun c69 => ?_)
        · skip
          have hfk : ¬ fkN (nr * nc) pL pG pp = true := by first | (intro z; simp only [fkN, Bool.and_eq_true, decide_eq_true_eq] at z; exact z.1 ((gk_m1 hk9).mp c69)) | (rw [hc97] at c80; intro z; simp only [fkN, Bool.and_eq_true, decide_eq_true_eq] at z; exact c80 z.2)
          refine lv_iconst (v := (-1)) hx hb dX5_farFromHome_87 (by decide) ?_
          subst hQ
          exact ret_i hx hb hr hlk () (by rw [if_neg hfk]) hP hD hS rfl dX5_farFromHome_88
        · skip
          have h46 : ¬ pG pp = 46 := fun z => c69 ((gk_m1 hk9).mpr z)
          have hc97 : 97 + (pG pp - 97) = pG pp := by omega
          refine lv_aload_n hx hb dX5_farFromHome_72 rfl (lv_at hl 3 rfl) ?_
          refine lv_bipush (v := nI 14) hx hb dX5_farFromHome_73 (by decide) ?_
          refine lv_iload_n hx hb dX5_farFromHome_75 rfl (lv_at hl 2 rfl) ?_
          refine eq_i (y := nI (pG pp - 97)) (show gk (pG pp) = nI (pG pp - 97) from if_neg h46) ?_
          refine callVi (As := [.int (nI 14), .int (nI (pG pp - 97))]) (rest := []) (wc := (MW G mh md nr nc pL pG pB pk bf hi sv ch hs inp ty er wy wd rf lt ln th tr mv fo sp wr td)) (wr := ([] : va_W)) ⟨hx, hb, hml, hown, hts⟩ (m_X5_timesOf__L l G mh md nr nc pL pG pB pk bf hi sv ch hs inp ty er wy wd rf lt ln th tr mv fo sp wr td (pG pp - 97) (by first | assumption | omega) (by first | assumption | omega) (by first | assumption | omega)) (cwV 2 hts (lw_V q1971 q1973 qs66 q105 q1974) rfl rfl rfl (by decide +kernel) ⟨Nat.le_of_ble_eq_true rfl, Nat.le_of_ble_eq_true rfl⟩) hK hZ hA hP hD hS [0, 1, 2, 3, 4, 5, 6, 7, 8, 9] [] rfl rfl (by decide) (by decide) (by decide) 0 4 rfl rfl rfl hl.1 (Nat.le_of_ble_eq_true rfl) ⟨Nat.le_of_ble_eq_true rfl, Nat.le_of_ble_eq_true rfl⟩ rfl dX5_farFromHome_76 (fun r9 u9 H locs hw9 hP hD hS => ?_)
          subst hw9
          have hP : va_P G.1 CL (MW G mh md nr nc pL pG pB pk bf hi sv ch hs inp ty er wy wd rf lt ln th tr mv fo sp wr td) _ := hP
          have hD : va_D A (MW G mh md nr nc pL pG pB pk bf hi sv ch hs inp ty er wy wd rf lt ln th tr mv fo sp wr td) := hD
          refine lv_iconst (v := nI 1) hx hb dX5_farFromHome_79 (by decide) ?_
          refine n_cmp_ne (tgt := 87) hx hb dX5_farFromHome_80 (by decide) (by have := tm_le pL (nr * nc) (97 + (pG pp - 97)); omega) (by decide) (fun c80 => ?_) (fun c80 => ?_)
          · skip
            have hfk : ¬ fkN (nr * nc) pL pG pp = true := by first | (intro z; simp only [fkN, Bool.and_eq_true, decide_eq_true_eq] at z; exact z.1 ((gk_m1 hk9).mp c69)) | (rw [hc97] at c80; intro z; simp only [fkN, Bool.and_eq_true, decide_eq_true_eq] at z; exact c80 z.2)
            refine lv_iconst (v := (-1)) hx hb dX5_farFromHome_87 (by decide) ?_
            subst hQ
            exact ret_i hx hb hr hlk () (by rw [if_neg hfk]) hP hD hS rfl dX5_farFromHome_88
          · skip
            have hfk : fkN (nr * nc) pL pG pp = true := by rw [hc97] at c80; simp [fkN, h46, c80]
            refine lv_iload_n hx hb dX5_farFromHome_83 rfl (lv_at hl 1 rfl) ?_
            refine lv_goto (tgt := 88) hx hb dX5_farFromHome_84 (by decide) ?_
            subst hQ
            exact ret_i hx hb hr hlk () (by rw [if_pos hfk, faN, if_pos hfk, hb9, show i = nr * nc by omega]; have hfun : (fun q => decide (pG pp ≠ 46 ∧ pL q = pG pp)) = (fun j => decide (pL j = pG pp)) := (by funext q; rw [decide_eq_decide]; exact ⟨fun z => z.2, fun z => ⟨h46, z⟩⟩); have hc1 : cn (fun j => decide (pL j = pG pp)) (nr * nc) = 1 := (by rw [hc97] at c80; exact c80); have hfl := fx_cn (P := fun j => decide (pL j = pG pp)) (n := nr * nc) (by omega); rw [hfun, lx_fx hc1, if_pos (by omega), farN_comm]) hP hD hS rfl dX5_farFromHome_88
      · skip
        refine lv_iload_n hx hb dX5_farFromHome_24 rfl (lv_at hl 2 rfl) ?_
        refine lv_iconst (v := (-1)) hx hb dX5_farFromHome_25 (by decide) ?_
        refine lv_icmp_eq (tgt := 59) hx hb dX5_farFromHome_26 (by decide) (fun c26 => ?_) (fun c26 => ?_)
        · skip
          refine lv_iload_n hx hb dX5_farFromHome_59 rfl (lv_at hl 1 rfl) ?_
          refine lv_istore_n (lv' := [(3, .int b9), (4, .int (nI i)), (2, .int (gk (pG pp))), (0, .ref mh), (1, .int (nI pp))]) hx hb dX5_farFromHome_60 rfl hl (by decide) rfl (fun ls hl => ?_)
          refine lv_iinc (v := nI (i + 1)) (lv' := [(4, .int (nI (i + 1))), (3, .int b9), (2, .int (gk (pG pp))), (0, .ref mh), (1, .int (nI pp))]) hx hb dX5_farFromHome_61 hl (k := 1) rfl (nI_add _ _) (by decide) rfl (fun ls hl => ?_)
          refine lv_goto (tgt := 15) hx hb dX5_farFromHome_64 (by decide) ?_
          exact ih15 (i + 1) b9 (by omega) (by omega) (by have hP9 : (fun q => decide (pG pp ≠ 46 ∧ pL q = pG pp)) i = false := decide_eq_false (fun z => by first | exact z.1 ((gk_m1 hk9).mp c26) | exact c40 ((fit_code (hLR i (by omega)) hk9).mpr z.2.symm).symm); have e9 : lx (fun q => decide (pG pp ≠ 46 ∧ pL q = pG pp)) 99 (i + 1) = lx (fun q => decide (pG pp ≠ 46 ∧ pL q = pG pp)) 99 i := (by rw [lx, if_neg (fun z9 => absurd (hP9.symm.trans z9) (by decide))]); rw [e9]; exact hb9) _ _ _ hP hD hS (lv_sub hl [0, 1, 2, 3, 4] rfl)
        · skip
          refine lv_aload_n hx hb dX5_farFromHome_29 rfl (lv_at hl 3 rfl) ?_
          refine va_get (D := G.1) (ci := 4) (v := .ref (md 0)) (C := RX5) (T := TX5) (N := 21) hx hb hts in_X5 hown hK hP 0 rfl rfl 0 (by decide) (hts _ q1727) (fun _ h9 => h9) rfl dX5_farFromHome_30 ?_
          refine lv_bipush (v := nI 14) hx hb dX5_farFromHome_33 (by decide) ?_
          refine lv_iload hx hb dX5_farFromHome_35 (lv_at hl 0 rfl) ?_
          refine n_iadd hx hb dX5_farFromHome_37 ?_
          refine r_iald hx hb hK hP 1 3 rfl rfl (by omega) (by decide) dX5_farFromHome_38 ?_
          refine eq_i (y := nI (pL i - 97)) (gZ_c (by omega)) ?_
          refine lv_iload_n hx hb dX5_farFromHome_39 rfl (lv_at hl 2 rfl) ?_
          refine lv_icmp_ne (tgt := 59) hx hb dX5_farFromHome_40 (by decide) (fun c40 => ?_) (fun c40 => ?_)
          · skip
            refine lv_iload_n hx hb dX5_farFromHome_59 rfl (lv_at hl 1 rfl) ?_
            refine lv_istore_n (lv' := [(3, .int b9), (4, .int (nI i)), (2, .int (gk (pG pp))), (0, .ref mh), (1, .int (nI pp))]) hx hb dX5_farFromHome_60 rfl hl (by decide) rfl (fun ls hl => ?_)
            refine lv_iinc (v := nI (i + 1)) (lv' := [(4, .int (nI (i + 1))), (3, .int b9), (2, .int (gk (pG pp))), (0, .ref mh), (1, .int (nI pp))]) hx hb dX5_farFromHome_61 hl (k := 1) rfl (nI_add _ _) (by decide) rfl (fun ls hl => ?_)
            refine lv_goto (tgt := 15) hx hb dX5_farFromHome_64 (by decide) ?_
            exact ih15 (i + 1) b9 (by omega) (by omega) (by have hP9 : (fun q => decide (pG pp ≠ 46 ∧ pL q = pG pp)) i = false := decide_eq_false (fun z => by first | exact z.1 ((gk_m1 hk9).mp c26) | exact c40 ((fit_code (hLR i (by omega)) hk9).mpr z.2.symm).symm); have e9 : lx (fun q => decide (pG pp ≠ 46 ∧ pL q = pG pp)) 99 (i + 1) = lx (fun q => decide (pG pp ≠ 46 ∧ pL q = pG pp)) 99 i := (by rw [lx, if_neg (fun z9 => absurd (hP9.symm.trans z9) (by decide))]); rw [e9]; exact hb9) _ _ _ hP hD hS (lv_sub hl [0, 1, 2, 3, 4] rfl)
          · skip
            refine lv_aload_n hx hb dX5_farFromHome_43 rfl (lv_at hl 3 rfl) ?_
            refine lv_iload hx hb dX5_farFromHome_44 (lv_at hl 0 rfl) ?_
            refine lv_iload_n hx hb dX5_farFromHome_46 rfl (lv_at hl 4 rfl) ?_
            refine lv_aload_n hx hb dX5_farFromHome_47 rfl (lv_at hl 3 rfl) ?_
            refine va_get (D := G.1) (ci := 4) (v := .ref (md 0)) (C := RX5) (T := TX5) (N := 21) hx hb hts in_X5 hown hK hP 0 rfl rfl 0 (by decide) (hts _ q1727) (fun _ h9 => h9) rfl dX5_farFromHome_48 ?_
            refine lv_iconst (v := nI 1) hx hb dX5_farFromHome_51 (by decide) ?_
            refine r_iald hx hb hK hP 1 3 rfl rfl (by omega) (by decide) dX5_farFromHome_52 ?_
            refine eq_i (y := nI nc) rfl ?_
            refine callVi (As := [.int (nI i), .int (nI pp), .int (nI nc)]) (rest := []) (wc := (MW G mh md nr nc pL pG pB pk bf hi sv ch hs inp ty er wy wd rf lt ln th tr mv fo sp wr td)) (wr := ([] : va_W)) ⟨hx, hb, hml, hown, hts⟩ (m_X5_stepsBetween l G mh md nr nc pL pG pB pk bf hi sv ch hs inp ty er wy wd rf lt ln th tr mv fo sp wr td i pp (by first | assumption | omega) (by first | assumption | omega) (by first | assumption | omega)) (cwV 3 hts (lw_V q2039 q2041 qs72 q105 q2042) rfl rfl rfl (by decide +kernel) ⟨Nat.le_of_ble_eq_true rfl, Nat.le_of_ble_eq_true rfl⟩) hK hZ hA hP hD hS [0, 1, 2, 3, 4, 5, 6, 7, 8, 9] [] rfl rfl (by decide) (by decide) (by decide) 0 4 rfl rfl rfl hl.1 (Nat.le_of_ble_eq_true rfl) ⟨Nat.le_of_ble_eq_true rfl, Nat.le_of_ble_eq_true rfl⟩ rfl dX5_farFromHome_53 (fun r9 u9 H locs hw9 hP hD hS => ?_)
            subst hw9
            have hP : va_P G.1 CL (MW G mh md nr nc pL pG pB pk bf hi sv ch hs inp ty er wy wd rf lt ln th tr mv fo sp wr td) _ := hP
            have hD : va_D A (MW G mh md nr nc pL pG pB pk bf hi sv ch hs inp ty er wy wd rf lt ln th tr mv fo sp wr td) := hD
            refine lv_goto (tgt := 60) hx hb dX5_farFromHome_56 (by decide) ?_
            refine lv_istore_n (lv' := [(3, .int (nI (farN nr nc i pp))), (4, .int (nI i)), (2, .int (gk (pG pp))), (0, .ref mh), (1, .int (nI pp))]) hx hb dX5_farFromHome_60 rfl hl (by decide) rfl (fun ls hl => ?_)
            refine lv_iinc (v := nI (i + 1)) (lv' := [(4, .int (nI (i + 1))), (3, .int (nI (farN nr nc i pp))), (2, .int (gk (pG pp))), (0, .ref mh), (1, .int (nI pp))]) hx hb dX5_farFromHome_61 hl (k := 1) rfl (nI_add _ _) (by decide) rfl (fun ls hl => ?_)
            refine lv_goto (tgt := 15) hx hb dX5_farFromHome_64 (by decide) ?_
            exact ih15 (i + 1) (nI (farN nr nc i pp)) (by omega) (by omega) (by have hP9 : (fun q => decide (pG pp ≠ 46 ∧ pL q = pG pp)) i = true := decide_eq_true ⟨fun z => c26 ((gk_m1 hk9).mpr z), ((fit_code (hLR i (by omega)) hk9).mp c40.symm).symm⟩; rw [lx, if_pos hP9, if_pos (by omega)]) _ _ _ hP hD hS (lv_sub hl [0, 1, 2, 3, 4] rfl)
  exact lp15 _ 0 (-1) (Nat.lt_succ_self _) (by omega) rfl _ _ _ hP hD hS (lv_sub hl [0, 1, 2, 3, 4] rfl)
set_option maxHeartbeats 4000000 in
set_option maxRecDepth 100000 in
theorem m_X5_meanFar (l : Launch) (G : GG) (mh : Nat) (md : Nat → Nat) (nr : Nat) (nc : Nat) (pL : Nat → Nat) (pG : Nat → Nat) (pB : Nat → Bool) (pk : Nat → Int32) (bf : Nat → Int32) (hi : Nat → Int32) (sv : Nat → Int32) (ch : Nat) (hs : Bool) (inp : Nat → Nat) (ty : Nat) (er : Int32) (wy : Int32) (wd : Int32) (rf : Bool) (lt : Nat → Nat) (ln : Nat) (th : Int32) (tr : Nat → Nat) (mv : Nat → Nat) (fo : Int32) (sp : Nat) (wr : Bool) (td : Nat → Int32) (hd : 2 ≤ nr ∧ nr ≤ 3 ∧ 2 ≤ nc ∧ nc ≤ 3) (hLR : ∀ q, q < nr * nc → 97 ≤ pL q ∧ pL q ≤ 108) (hKR : ∀ q, q < nr * nc → pG q = 46 ∨ (97 ≤ pG q ∧ pG q ≤ 108)) : MM l G yX5_meanFar cX5_meanFar 5 (some .double) ⟨3, 0, 0, 70⟩ [.ref mh] (MW G mh md nr nc pL pG pB pk bf hi sv ch hs inp ty er wy wd rf lt ln th tr mv fo sp wr td) (Qd_ G (fun (r : UInt64) (_ : Unit) => r = (if cn (fkN (nr * nc) pL pG) (nr * nc) = 0 then FP.dconst0 else FP.ddiv (FP.i2d (nI (sm (faN nr nc pL pG) (nr * nc)))) (FP.i2d (nI (cn (fkN (nr * nc) pL pG) (nr * nc)))))) (fun (_ : Unit) => (MW G mh md nr nc pL pG pB pk bf hi sv ch hs inp ty er wy wd rf lt ln (if cn (fkN (nr * nc) pL pG) (nr * nc) = 0 then nI 1 else nI 0) tr mv fo sp wr td))) := by
  refine MM.of (by decide) (Nat.le_of_ble_eq_true rfl) ?_
  intro p e s m args below meth cd A C hini hA hK hZ hP hD ls hl
  generalize hQ : MQ below ((Qd_ G (fun (r : UInt64) (_ : Unit) => r = (if cn (fkN (nr * nc) pL pG) (nr * nc) = 0 then FP.dconst0 else FP.ddiv (FP.i2d (nI (sm (faN nr nc pL pG) (nr * nc)))) (FP.i2d (nI (cn (fkN (nr * nc) pL pG) (nr * nc)))))) (fun (_ : Unit) => (MW G mh md nr nc pL pG pB pk bf hi sv ch hs inp ty er wy wd rf lt ln (if cn (fkN (nr * nc) pL pG) (nr * nc) = 0 then nI 1 else nI 0) tr mv fo sp wr td))) A) args s (⟨3, 0, 0, 70⟩ : Room).cells (⟨3, 0, 0, 70⟩ : Room).slots A = Q
  obtain ⟨hx, hb, hr, hts, hown, hlk, hml⟩ := C
  have hown : s.vm.findClass RX5 = some m.cls := hown
  have hS : va_S A s.heap s.heap [] := va_S.rf
  have hl : lv_has ls 5 [(0, .ref mh)] := hl
  have hmu := dm_mul hd
  refine lv_iconst (v := nI 0) hx hb dX5_meanFar_0 (by decide) ?_
  refine lv_istore_n (lv' := [(1, .int (nI 0)), (0, .ref mh)]) hx hb dX5_meanFar_1 rfl hl (by decide) rfl (fun ls hl => ?_)
  refine lv_iconst (v := nI 0) hx hb dX5_meanFar_2 (by decide) ?_
  refine lv_istore_n (lv' := [(2, .int (nI 0)), (1, .int (nI 0)), (0, .ref mh)]) hx hb dX5_meanFar_3 rfl hl (by decide) rfl (fun ls hl => ?_)
  refine lv_iconst (v := nI 0) hx hb dX5_meanFar_4 (by decide) ?_
  refine lv_istore_n (lv' := [(3, .int (nI 0)), (2, .int (nI 0)), (1, .int (nI 0)), (0, .ref mh)]) hx hb dX5_meanFar_5 rfl hl (by decide) rfl (fun ls hl => ?_)
  have lp6 : ∀ (f : Nat) (i : Nat) (n : Nat) (su : Nat), nr * nc - i < f → (i ≤ nr * nc) → (n = cn (fkN (nr * nc) pL pG) i) → (su = sm (faN nr nc pL pG) i) → ∀ (H : Heap) (locs : List Loc) (ls : Array Slot), va_P G.1 CL (MW G mh md nr nc pL pG pB pk bf hi sv ch hs inp ty er wy wd rf lt ln th tr mv fo sp wr td) H → va_D A (MW G mh md nr nc pL pG pB pk bf hi sv ch hs inp ty er wy wd rf lt ln th tr mv fo sp wr td) → va_S A s.heap H locs → lv_has ls 5 [(0, .ref mh), (1, .int (nI n)), (2, .int (nI su)), (3, .int (nI i))] → W p l e (⟨3, 0, 0, 70⟩ : Room) s m args below meth cd H locs 0 0 Q (F0 m 6 ls []) := by
    intro f
    induction f with
    | zero => intro i n su hf; exact absurd hf (Nat.not_lt_zero _)
    | succ f ih6 =>
      intro i n su hf hi9 hn9 hs9 H locs ls hP hD hS hl
      refine lv_iload_n hx hb dX5_meanFar_6 rfl (lv_at hl 3 rfl) ?_
      refine lv_aload_n hx hb dX5_meanFar_7 rfl (lv_at hl 0 rfl) ?_
      refine callVi (As := []) (rest := [.int (nI i)]) (wc := (MW G mh md nr nc pL pG pB pk bf hi sv ch hs inp ty er wy wd rf lt ln th tr mv fo sp wr td)) (wr := ([] : va_W)) ⟨hx, hb, hml, hown, hts⟩ (m_X5_places l G mh md nr nc pL pG pB pk bf hi sv ch hs inp ty er wy wd rf lt ln th tr mv fo sp wr td ) (cwV 0 hts (lw_V q1817 q1819 qs38 q105 q1820) rfl rfl rfl (by decide +kernel) ⟨Nat.le_of_ble_eq_true rfl, Nat.le_of_ble_eq_true rfl⟩) hK hZ hA hP hD hS [0, 1, 2, 3, 4, 5, 6, 7, 8, 9] [] rfl rfl (by decide) (by decide) (by decide) 0 4 rfl rfl rfl hl.1 (Nat.le_of_ble_eq_true rfl) ⟨Nat.le_of_ble_eq_true rfl, Nat.le_of_ble_eq_true rfl⟩ rfl dX5_meanFar_8 (fun r9 u9 H locs hw9 hP hD hS => ?_)
      subst hw9
      have hP : va_P G.1 CL (MW G mh md nr nc pL pG pB pk bf hi sv ch hs inp ty er wy wd rf lt ln th tr mv fo sp wr td) _ := hP
      have hD : va_D A (MW G mh md nr nc pL pG pB pk bf hi sv ch hs inp ty er wy wd rf lt ln th tr mv fo sp wr td) := hD
      refine n_cmp_ge (tgt := 56) hx hb dX5_meanFar_11 (by decide) (by omega) (by omega) (fun c11 => ?_) (fun c11 => ?_)
      · skip
        have hii : i = nr * nc := by omega
        refine lv_aload_n hx hb dX5_meanFar_56 rfl (lv_at hl 0 rfl) ?_
        refine lv_iload_n hx hb dX5_meanFar_57 rfl (lv_at hl 1 rfl) ?_
        refine n_if_ne (tgt := 65) hx hb dX5_meanFar_58 (by decide) (by have := cn_le (fkN (nr * nc) pL pG) i; omega) (fun c58 => ?_) (fun c58 => ?_)
        · skip
          refine lv_iconst (v := nI 0) hx hb dX5_meanFar_65 (by decide) ?_
          refine va_put (D := G.1) (ci := 4) (v := .int (nI 0)) (ty := .int) (C := RX5) (T := TX5) (N := 21) hx hb hts in_X5 tyX5 tyX5_ok nmX5 hown hK hP hD hS 0 rfl rfl 14 (by decide) (hts _ q1741) (fun _ h9 => h9) rfl (by decide +kernel) rfl rfl (Nat.le_of_ble_eq_true rfl) dX5_meanFar_66 (fun H locs hP hD hS => ?_)
          have hP : va_P G.1 CL (MW G mh md nr nc pL pG pB pk bf hi sv ch hs inp ty er wy wd rf lt ln (nI 0) tr mv fo sp wr td) _ := hP
          have hD : va_D A (MW G mh md nr nc pL pG pB pk bf hi sv ch hs inp ty er wy wd rf lt ln (nI 0) tr mv fo sp wr td) := hD
          refine lv_aload_n hx hb dX5_meanFar_69 rfl (lv_at hl 0 rfl) ?_
          refine va_get (D := G.1) (ci := 4) (v := .int (nI 0)) (C := RX5) (T := TX5) (N := 21) hx hb hts in_X5 hown hK hP 0 rfl rfl 14 (by decide) (hts _ q1741) (fun _ h9 => h9) rfl dX5_meanFar_70 ?_
          refine n_if_ne (tgt := 84) hx hb dX5_meanFar_73 (by decide) (by decide) (fun c73 => ?_) (fun c73 => ?_)
          · exact absurd c73 (by decide)
          refine lv_iload_n hx hb dX5_meanFar_76 rfl (lv_at hl 2 rfl) ?_
          refine lv_i2d hx hb dX5_meanFar_77 ?_
          refine lv_iload_n hx hb dX5_meanFar_78 rfl (lv_at hl 1 rfl) ?_
          refine lv_i2d hx hb dX5_meanFar_79 ?_
          refine lv_ddiv hx hb dX5_meanFar_80 (fp_d (by have := sm_fa (L := pL) (K := pG) hd (nr * nc) (Nat.le_refl _); rw [hs9, hii]; omega) (by have := cn_le (fkN (nr * nc) pL pG) (nr * nc); rw [hn9, hii]; omega) (by omega)) ?_
          refine lv_goto (tgt := 85) hx hb dX5_meanFar_81 (by decide) ?_
          have e_th : nI 0 = (if cn (fkN (nr * nc) pL pG) (nr * nc) = 0 then nI 1 else nI 0) := (if_neg (by rw [hn9, hii] at c58; omega)).symm
          rw [e_th] at hP hD
          subst hQ
          exact ret_d hx hb hr hlk () (by rw [if_neg (by rw [hn9, hii] at c58; omega), hn9, hs9, hii]) hP hD hS dX5_meanFar_85
        · skip
          refine lv_iconst (v := nI 1) hx hb dX5_meanFar_61 (by decide) ?_
          refine lv_goto (tgt := 66) hx hb dX5_meanFar_62 (by decide) ?_
          refine va_put (D := G.1) (ci := 4) (v := .int (nI 1)) (ty := .int) (C := RX5) (T := TX5) (N := 21) hx hb hts in_X5 tyX5 tyX5_ok nmX5 hown hK hP hD hS 0 rfl rfl 14 (by decide) (hts _ q1741) (fun _ h9 => h9) rfl (by decide +kernel) rfl rfl (Nat.le_of_ble_eq_true rfl) dX5_meanFar_66 (fun H locs hP hD hS => ?_)
          have hP : va_P G.1 CL (MW G mh md nr nc pL pG pB pk bf hi sv ch hs inp ty er wy wd rf lt ln (nI 1) tr mv fo sp wr td) _ := hP
          have hD : va_D A (MW G mh md nr nc pL pG pB pk bf hi sv ch hs inp ty er wy wd rf lt ln (nI 1) tr mv fo sp wr td) := hD
          refine lv_aload_n hx hb dX5_meanFar_69 rfl (lv_at hl 0 rfl) ?_
          refine va_get (D := G.1) (ci := 4) (v := .int (nI 1)) (C := RX5) (T := TX5) (N := 21) hx hb hts in_X5 hown hK hP 0 rfl rfl 14 (by decide) (hts _ q1741) (fun _ h9 => h9) rfl dX5_meanFar_70 ?_
          refine n_if_ne (tgt := 84) hx hb dX5_meanFar_73 (by decide) (by decide) (fun c73 => ?_) (fun c73 => ?_)
          rotate_left
          · exact absurd c73 (by decide)
          refine lv_dconst0 hx hb dX5_meanFar_84 ?_
          have e_th : nI 1 = (if cn (fkN (nr * nc) pL pG) (nr * nc) = 0 then nI 1 else nI 0) := (if_pos (by rw [hn9, hii] at c58; exact c58)).symm
          rw [e_th] at hP hD
          subst hQ
          exact ret_d hx hb hr hlk () (if_pos (by rw [hn9, hii] at c58; exact c58)).symm hP hD hS dX5_meanFar_85
      · skip
        refine lv_aload_n hx hb dX5_meanFar_14 rfl (lv_at hl 0 rfl) ?_
        refine lv_iload_n hx hb dX5_meanFar_15 rfl (lv_at hl 3 rfl) ?_
        refine callVi (As := [.int (nI i)]) (rest := []) (wc := (MW G mh md nr nc pL pG pB pk bf hi sv ch hs inp ty er wy wd rf lt ln th tr mv fo sp wr td)) (wr := ([] : va_W)) ⟨hx, hb, hml, hown, hts⟩ (m_X5_farFromHome l G mh md nr nc pL pG pB pk bf hi sv ch hs inp ty er wy wd rf lt ln th tr mv fo sp wr td i (by first | assumption | omega) (by first | assumption | omega) (by first | assumption | omega) (by first | assumption | omega)) (cwV 1 hts (lw_V q2157 q2159 qs86 q105 q2160) rfl rfl rfl (by decide +kernel) ⟨Nat.le_of_ble_eq_true rfl, Nat.le_of_ble_eq_true rfl⟩) hK hZ hA hP hD hS [0, 1, 2, 3, 4, 5, 6, 7, 8, 9] [] rfl rfl (by decide) (by decide) (by decide) 0 4 rfl rfl rfl hl.1 (Nat.le_of_ble_eq_true rfl) ⟨Nat.le_of_ble_eq_true rfl, Nat.le_of_ble_eq_true rfl⟩ rfl dX5_meanFar_16 (fun r9 u9 H locs hw9 hP hD hS => ?_)
        subst hw9
        have hP : va_P G.1 CL (MW G mh md nr nc pL pG pB pk bf hi sv ch hs inp ty er wy wd rf lt ln th tr mv fo sp wr td) _ := hP
        have hD : va_D A (MW G mh md nr nc pL pG pB pk bf hi sv ch hs inp ty er wy wd rf lt ln th tr mv fo sp wr td) := hD
        refine lv_istore (lv' := [(4, .int (if fkN (nr * nc) pL pG i = true then nI (faN nr nc pL pG i) else -1)), (0, .ref mh), (1, .int (nI n)), (2, .int (nI su)), (3, .int (nI i))]) hx hb dX5_meanFar_19 hl (by decide) rfl (fun ls hl => ?_)
        refine lv_iload_n hx hb dX5_meanFar_21 rfl (lv_at hl 2 rfl) ?_
        refine lv_iload hx hb dX5_meanFar_22 (lv_at hl 0 rfl) ?_
        refine lv_iconst (v := (-1)) hx hb dX5_meanFar_24 (by decide) ?_
        refine lv_icmp_ne (tgt := 32) hx hb dX5_meanFar_25 (by decide) (fun c25 => ?_) (fun c25 => ?_)
        · skip
          have hfk : fkN (nr * nc) pL pG i = true := Classical.not_not.mp (fun z => c25 (if_neg z))
          refine lv_iconst (v := nI 1) hx hb dX5_meanFar_32 (by decide) ?_
          refine n_iadd hx hb dX5_meanFar_33 ?_
          refine lv_istore_n (lv' := [(1, .int (nI (n + 1))), (4, .int (if fkN (nr * nc) pL pG i = true then nI (faN nr nc pL pG i) else -1)), (0, .ref mh), (2, .int (nI su)), (3, .int (nI i))]) hx hb dX5_meanFar_34 rfl hl (by decide) rfl (fun ls hl => ?_)
          refine lv_iload_n hx hb dX5_meanFar_35 rfl (lv_at hl 3 rfl) ?_
          refine lv_iload hx hb dX5_meanFar_36 (lv_at hl 1 rfl) ?_
          refine lv_iconst (v := (-1)) hx hb dX5_meanFar_38 (by decide) ?_
          refine lv_icmp_ne (tgt := 46) hx hb dX5_meanFar_39 (by decide) (fun c39 => ?_) (fun c39 => ?_)
          · skip
            refine lv_iload hx hb dX5_meanFar_46 (lv_at hl 1 rfl) ?_
            refine lv_iadd hx hb dX5_meanFar_48 ?_
            refine eq_i (y := nI (su + faN nr nc pL pG i)) (by first | (rw [if_pos hfk, nI_add]; done) | exact absurd c25 c39) ?_
            refine lv_istore_n (lv' := [(2, .int (nI (su + faN nr nc pL pG i))), (1, .int (nI (n + 1))), (4, .int (if fkN (nr * nc) pL pG i = true then nI (faN nr nc pL pG i) else -1)), (0, .ref mh), (3, .int (nI i))]) hx hb dX5_meanFar_49 rfl hl (by decide) rfl (fun ls hl => ?_)
            refine lv_iinc (v := nI (i + 1)) (lv' := [(3, .int (nI (i + 1))), (2, .int (nI (su + faN nr nc pL pG i))), (1, .int (nI (n + 1))), (4, .int (if fkN (nr * nc) pL pG i = true then nI (faN nr nc pL pG i) else -1)), (0, .ref mh)]) hx hb dX5_meanFar_50 hl (k := 4) rfl (nI_add _ _) (by decide) rfl (fun ls hl => ?_)
            refine lv_goto (tgt := 6) hx hb dX5_meanFar_53 (by decide) ?_
            exact ih6 (i + 1) (n + 1) (su + faN nr nc pL pG i) (by omega) (by omega) (by first | exact absurd hfk c39 | (rw [hn9]; exact cn_t hfk) | exact absurd c25 c39) (by rw [sm, ← hs9]) _ _ _ hP hD hS (lv_sub hl [4, 2, 1, 0] rfl)
          · skip
            refine lv_iconst (v := nI 0) hx hb dX5_meanFar_42 (by decide) ?_
            refine lv_goto (tgt := 48) hx hb dX5_meanFar_43 (by decide) ?_
            refine n_iadd hx hb dX5_meanFar_48 ?_
            refine lv_istore_n (lv' := [(2, .int (nI (su + 0))), (1, .int (nI (n + 1))), (4, .int (if fkN (nr * nc) pL pG i = true then nI (faN nr nc pL pG i) else -1)), (0, .ref mh), (3, .int (nI i))]) hx hb dX5_meanFar_49 rfl hl (by decide) rfl (fun ls hl => ?_)
            refine lv_iinc (v := nI (i + 1)) (lv' := [(3, .int (nI (i + 1))), (2, .int (nI (su + 0))), (1, .int (nI (n + 1))), (4, .int (if fkN (nr * nc) pL pG i = true then nI (faN nr nc pL pG i) else -1)), (0, .ref mh)]) hx hb dX5_meanFar_50 hl (k := 4) rfl (nI_add _ _) (by decide) rfl (fun ls hl => ?_)
            refine lv_goto (tgt := 6) hx hb dX5_meanFar_53 (by decide) ?_
            exact ih6 (i + 1) (n + 1) (su + 0) (by omega) (by omega) (by first | (rw [hn9]; exact cn_f (by simpa using hfk)) | exact absurd c39 c25) (by first | (rw [sm, ← hs9, faN, if_neg hfk]) | exact absurd c39 c25) _ _ _ hP hD hS (lv_sub hl [4, 2, 1, 0] rfl)
        · skip
          have hfk : ¬ fkN (nr * nc) pL pG i = true := fun z => by rw [if_pos z] at c25; exact nI_ne1 (by have := sm_fa (L := pL) (K := pG) hd (i + 1) (by omega); simp only [sm] at this; omega) c25
          refine lv_iconst (v := nI 0) hx hb dX5_meanFar_28 (by decide) ?_
          refine lv_goto (tgt := 33) hx hb dX5_meanFar_29 (by decide) ?_
          refine n_iadd hx hb dX5_meanFar_33 ?_
          refine lv_istore_n (lv' := [(1, .int (nI (n + 0))), (4, .int (if fkN (nr * nc) pL pG i = true then nI (faN nr nc pL pG i) else -1)), (0, .ref mh), (2, .int (nI su)), (3, .int (nI i))]) hx hb dX5_meanFar_34 rfl hl (by decide) rfl (fun ls hl => ?_)
          refine lv_iload_n hx hb dX5_meanFar_35 rfl (lv_at hl 3 rfl) ?_
          refine lv_iload hx hb dX5_meanFar_36 (lv_at hl 1 rfl) ?_
          refine lv_iconst (v := (-1)) hx hb dX5_meanFar_38 (by decide) ?_
          refine lv_icmp_ne (tgt := 46) hx hb dX5_meanFar_39 (by decide) (fun c39 => ?_) (fun c39 => ?_)
          · skip
            refine lv_iload hx hb dX5_meanFar_46 (lv_at hl 1 rfl) ?_
            refine lv_iadd hx hb dX5_meanFar_48 ?_
            refine eq_i (y := nI (su + faN nr nc pL pG i)) (by first | (rw [if_pos hfk, nI_add]; done) | exact absurd c25 c39) ?_
            refine lv_istore_n (lv' := [(2, .int (nI (su + faN nr nc pL pG i))), (1, .int (nI (n + 0))), (4, .int (if fkN (nr * nc) pL pG i = true then nI (faN nr nc pL pG i) else -1)), (0, .ref mh), (3, .int (nI i))]) hx hb dX5_meanFar_49 rfl hl (by decide) rfl (fun ls hl => ?_)
            refine lv_iinc (v := nI (i + 1)) (lv' := [(3, .int (nI (i + 1))), (2, .int (nI (su + faN nr nc pL pG i))), (1, .int (nI (n + 0))), (4, .int (if fkN (nr * nc) pL pG i = true then nI (faN nr nc pL pG i) else -1)), (0, .ref mh)]) hx hb dX5_meanFar_50 hl (k := 4) rfl (nI_add _ _) (by decide) rfl (fun ls hl => ?_)
            refine lv_goto (tgt := 6) hx hb dX5_meanFar_53 (by decide) ?_
            exact ih6 (i + 1) (n + 0) (su + faN nr nc pL pG i) (by omega) (by omega) (by first | exact absurd hfk c39 | (rw [hn9]; exact cn_t hfk) | exact absurd c25 c39) (by rw [sm, ← hs9]) _ _ _ hP hD hS (lv_sub hl [4, 2, 1, 0] rfl)
          · skip
            refine lv_iconst (v := nI 0) hx hb dX5_meanFar_42 (by decide) ?_
            refine lv_goto (tgt := 48) hx hb dX5_meanFar_43 (by decide) ?_
            refine n_iadd hx hb dX5_meanFar_48 ?_
            refine lv_istore_n (lv' := [(2, .int (nI (su + 0))), (1, .int (nI (n + 0))), (4, .int (if fkN (nr * nc) pL pG i = true then nI (faN nr nc pL pG i) else -1)), (0, .ref mh), (3, .int (nI i))]) hx hb dX5_meanFar_49 rfl hl (by decide) rfl (fun ls hl => ?_)
            refine lv_iinc (v := nI (i + 1)) (lv' := [(3, .int (nI (i + 1))), (2, .int (nI (su + 0))), (1, .int (nI (n + 0))), (4, .int (if fkN (nr * nc) pL pG i = true then nI (faN nr nc pL pG i) else -1)), (0, .ref mh)]) hx hb dX5_meanFar_50 hl (k := 4) rfl (nI_add _ _) (by decide) rfl (fun ls hl => ?_)
            refine lv_goto (tgt := 6) hx hb dX5_meanFar_53 (by decide) ?_
            exact ih6 (i + 1) (n + 0) (su + 0) (by omega) (by omega) (by first | (rw [hn9]; exact cn_f (by simpa using hfk)) | exact absurd c39 c25) (by first | (rw [sm, ← hs9, faN, if_neg hfk]) | exact absurd c39 c25) _ _ _ hP hD hS (lv_sub hl [4, 2, 1, 0] rfl)
  exact lp6 _ 0 0 0 (Nat.lt_succ_self _) (by omega) rfl rfl _ _ _ hP hD hS (lv_sub hl [3, 2, 1, 0] rfl)
set_option maxHeartbeats 4000000 in
set_option maxRecDepth 100000 in
theorem m_X5_homeShare (l : Launch) (G : GG) (mh : Nat) (md : Nat → Nat) (nr : Nat) (nc : Nat) (pL : Nat → Nat) (pG : Nat → Nat) (pB : Nat → Bool) (pk : Nat → Int32) (bf : Nat → Int32) (hi : Nat → Int32) (sv : Nat → Int32) (ch : Nat) (hs : Bool) (inp : Nat → Nat) (ty : Nat) (er : Int32) (wy : Int32) (wd : Int32) (rf : Bool) (lt : Nat → Nat) (ln : Nat) (th : Int32) (tr : Nat → Nat) (mv : Nat → Nat) (fo : Int32) (sp : Nat) (wr : Bool) (td : Nat → Int32) (hd : 2 ≤ nr ∧ nr ≤ 3 ∧ 2 ≤ nc ∧ nc ≤ 3) (hLR : ∀ q, q < nr * nc → 97 ≤ pL q ∧ pL q ≤ 108) (hKR : ∀ q, q < nr * nc → pG q = 46 ∨ (97 ≤ pG q ∧ pG q ≤ 108)) : MM l G yX5_homeShare cX5_homeShare 1 (some .float) ⟨3, 0, 0, 62⟩ [.ref mh] (MW G mh md nr nc pL pG pB pk bf hi sv ch hs inp ty er wy wd rf lt ln th tr mv fo sp wr td) (Qf_ G (fun (r : UInt32) (u : (Nat → Nat)) => r = (FP.fdiv (FP.i2f (nI (hm nr nc pL pG))) (FP.i2f (nI (nr * nc))))) (fun (u : (Nat → Nat)) => (MW G mh md nr nc pL pG pB pk bf hi sv ch hs inp ty er wy wd rf lt ln (nI 0) u mv fo sp wr td))) := by
  refine MM.of (by decide) (Nat.le_of_ble_eq_true rfl) ?_
  intro p e s m args below meth cd A C hini hA hK hZ hP hD ls hl
  generalize hQ : MQ below ((Qf_ G (fun (r : UInt32) (u : (Nat → Nat)) => r = (FP.fdiv (FP.i2f (nI (hm nr nc pL pG))) (FP.i2f (nI (nr * nc))))) (fun (u : (Nat → Nat)) => (MW G mh md nr nc pL pG pB pk bf hi sv ch hs inp ty er wy wd rf lt ln (nI 0) u mv fo sp wr td))) A) args s (⟨3, 0, 0, 62⟩ : Room).cells (⟨3, 0, 0, 62⟩ : Room).slots A = Q
  obtain ⟨hx, hb, hr, hts, hown, hlk, hml⟩ := C
  have hown : s.vm.findClass RX5 = some m.cls := hown
  have hS : va_S A s.heap s.heap [] := va_S.rf
  have hl : lv_has ls 1 [(0, .ref mh)] := hl
  have hmu := dm_mul hd
  refine lv_aload_n hx hb dX5_homeShare_0 rfl (lv_at hl 0 rfl) ?_
  refine lv_iconst (v := nI 0) hx hb dX5_homeShare_1 (by decide) ?_
  refine va_put (D := G.1) (ci := 4) (v := .int (nI 0)) (ty := .int) (C := RX5) (T := TX5) (N := 21) hx hb hts in_X5 tyX5 tyX5_ok nmX5 hown hK hP hD hS 0 rfl rfl 14 (by decide) (hts _ q1741) (fun _ h9 => h9) rfl (by decide +kernel) rfl rfl (Nat.le_of_ble_eq_true rfl) dX5_homeShare_2 (fun H locs hP hD hS => ?_)
  have hP : va_P G.1 CL (MW G mh md nr nc pL pG pB pk bf hi sv ch hs inp ty er wy wd rf lt ln (nI 0) tr mv fo sp wr td) _ := hP
  have hD : va_D A (MW G mh md nr nc pL pG pB pk bf hi sv ch hs inp ty er wy wd rf lt ln (nI 0) tr mv fo sp wr td) := hD
  refine lv_aload_n hx hb dX5_homeShare_5 rfl (lv_at hl 0 rfl) ?_
  refine callVi (As := []) (rest := []) (wc := (MW G mh md nr nc pL pG pB pk bf hi sv ch hs inp ty er wy wd rf lt ln (nI 0) tr mv fo sp wr td)) (wr := ([] : va_W)) ⟨hx, hb, hml, hown, hts⟩ (m_X5_homes l G mh md nr nc pL pG pB pk bf hi sv ch hs inp ty er wy wd rf lt ln (nI 0) tr mv fo sp wr td (by first | assumption | omega) (by first | assumption | omega) (by first | assumption | omega)) (cwV 0 hts (lw_V q1887 q1889 qs51 q105 q1890) rfl rfl rfl (by decide +kernel) ⟨Nat.le_of_ble_eq_true rfl, Nat.le_of_ble_eq_true rfl⟩) hK hZ hA hP hD hS [0, 1, 2, 3, 4, 5, 6, 7, 8, 9] [] rfl rfl (by decide) (by decide) (by decide) 0 4 rfl rfl rfl hl.1 (Nat.le_of_ble_eq_true rfl) ⟨Nat.le_of_ble_eq_true rfl, Nat.le_of_ble_eq_true rfl⟩ rfl dX5_homeShare_6 (fun r9 u9 H locs hw9 hP hD hS => ?_)
  obtain ⟨tr1_1, e9⟩ : ∃ z, z = u9 := ⟨_, rfl⟩
  subst e9
  obtain ⟨hr9, hw6⟩ := hw9
  subst hr9
  have hw6 : ∀ q, q < nr * nc → tr1_1 q = pL q - 97 := hw6
  have hP : va_P G.1 CL (MW G mh md nr nc pL pG pB pk bf hi sv ch hs inp ty er wy wd rf lt ln (nI 0) tr1_1 mv fo sp wr td) _ := hP
  have hD : va_D A (MW G mh md nr nc pL pG pB pk bf hi sv ch hs inp ty er wy wd rf lt ln (nI 0) tr1_1 mv fo sp wr td) := hD
  refine lv_i2f hx hb dX5_homeShare_9 ?_
  refine lv_aload_n hx hb dX5_homeShare_10 rfl (lv_at hl 0 rfl) ?_
  refine callVi (As := []) (rest := [.float (FP.i2f (nI (hm nr nc pL pG)))]) (wc := (MW G mh md nr nc pL pG pB pk bf hi sv ch hs inp ty er wy wd rf lt ln (nI 0) tr1_1 mv fo sp wr td)) (wr := ([] : va_W)) ⟨hx, hb, hml, hown, hts⟩ (m_X5_places l G mh md nr nc pL pG pB pk bf hi sv ch hs inp ty er wy wd rf lt ln (nI 0) tr1_1 mv fo sp wr td ) (cwV 0 hts (lw_V q1817 q1819 qs38 q105 q1820) rfl rfl rfl (by decide +kernel) ⟨Nat.le_of_ble_eq_true rfl, Nat.le_of_ble_eq_true rfl⟩) hK hZ hA hP hD hS [0, 1, 2, 3, 4, 5, 6, 7, 8, 9] [] rfl rfl (by decide) (by decide) (by decide) 0 4 rfl rfl rfl hl.1 (Nat.le_of_ble_eq_true rfl) ⟨Nat.le_of_ble_eq_true rfl, Nat.le_of_ble_eq_true rfl⟩ rfl dX5_homeShare_11 (fun r9 u9 H locs hw9 hP hD hS => ?_)
  subst hw9
  have hP : va_P G.1 CL (MW G mh md nr nc pL pG pB pk bf hi sv ch hs inp ty er wy wd rf lt ln (nI 0) tr1_1 mv fo sp wr td) _ := hP
  have hD : va_D A (MW G mh md nr nc pL pG pB pk bf hi sv ch hs inp ty er wy wd rf lt ln (nI 0) tr1_1 mv fo sp wr td) := hD
  refine lv_i2f hx hb dX5_homeShare_14 ?_
  refine lv_fdiv hx hb dX5_homeShare_15 (fp_f (hm_lt9 hd _ _) (by omega) (by omega)).1 ?_
  subst hQ
  exact ret_f hx hb hr hlk tr1_1 rfl hP hD hS dX5_homeShare_16
set_option maxHeartbeats 4000000 in
set_option maxRecDepth 100000 in
theorem m_X5_undo (l : Launch) (G : GG) (mh : Nat) (md : Nat → Nat) (nr : Nat) (nc : Nat) (pL : Nat → Nat) (pG : Nat → Nat) (pB : Nat → Bool) (pk : Nat → Int32) (bf : Nat → Int32) (hi : Nat → Int32) (sv : Nat → Int32) (ch : Nat) (hs : Bool) (inp : Nat → Nat) (ty : Nat) (er : Int32) (wy : Int32) (wd : Int32) (rf : Bool) (lt : Nat → Nat) (ln : Nat) (th : Int32) (tr : Nat → Nat) (mv : Nat → Nat) (fo : Int32) (sp : Nat) (wr : Bool) (td : Nat → Int32) (zl : List ZT) (hH : HistA hi zl ch) : MM l G yX5_undo cX5_undo 1 (some .int) ⟨1, 0, 0, 24⟩ [.ref mh] (MW G mh md nr nc pL pG pB pk bf hi sv ch hs inp ty er wy wd rf lt ln th tr mv fo sp wr td) (Qi_ G (fun (r : Int32) (u : (Bool)) => (r = nI (ch - 1)) ∧ (HistA hi zl.dropLast (ch - 1))) (fun (u : (Bool)) => (MW G mh md ((zl.getLastD (nr, nc, pL, pG, pB, pk)).1) ((zl.getLastD (nr, nc, pL, pG, pB, pk)).2.1) ((zl.getLastD (nr, nc, pL, pG, pB, pk)).2.2.1) ((zl.getLastD (nr, nc, pL, pG, pB, pk)).2.2.2.1) ((zl.getLastD (nr, nc, pL, pG, pB, pk)).2.2.2.2.1) ((zl.getLastD (nr, nc, pL, pG, pB, pk)).2.2.2.2.2) bf hi sv (ch - 1) hs inp ty er wy wd u lt ln (if ch = 0 then nI 1 else nI 0) tr mv fo sp wr td))) := by
  refine MM.of (by decide) (Nat.le_of_ble_eq_true rfl) ?_
  intro p e s m args below meth cd A C hini hA hK hZ hP hD ls hl
  generalize hQ : MQ below ((Qi_ G (fun (r : Int32) (u : (Bool)) => (r = nI (ch - 1)) ∧ (HistA hi zl.dropLast (ch - 1))) (fun (u : (Bool)) => (MW G mh md ((zl.getLastD (nr, nc, pL, pG, pB, pk)).1) ((zl.getLastD (nr, nc, pL, pG, pB, pk)).2.1) ((zl.getLastD (nr, nc, pL, pG, pB, pk)).2.2.1) ((zl.getLastD (nr, nc, pL, pG, pB, pk)).2.2.2.1) ((zl.getLastD (nr, nc, pL, pG, pB, pk)).2.2.2.2.1) ((zl.getLastD (nr, nc, pL, pG, pB, pk)).2.2.2.2.2) bf hi sv (ch - 1) hs inp ty er wy wd u lt ln (if ch = 0 then nI 1 else nI 0) tr mv fo sp wr td))) A) args s (⟨1, 0, 0, 24⟩ : Room).cells (⟨1, 0, 0, 24⟩ : Room).slots A = Q
  obtain ⟨hx, hb, hr, hts, hown, hlk, hml⟩ := C
  have hown : s.vm.findClass RX5 = some m.cls := hown
  have hS : va_S A s.heap s.heap [] := va_S.rf
  have hl : lv_has ls 1 [(0, .ref mh)] := hl
  have h8 := hH.2.1
  refine lv_aload_n hx hb dX5_undo_0 rfl (lv_at hl 0 rfl) ?_
  refine va_get (D := G.1) (ci := 4) (v := .int (nI ch)) (C := RX5) (T := TX5) (N := 21) hx hb hts in_X5 hown hK hP 0 rfl rfl 3 (by decide) (hts _ q1730) (fun _ h9 => h9) rfl dX5_undo_1 ?_
  refine n_if_ne (tgt := 13) hx hb dX5_undo_4 (by decide) (by omega) (fun c4 => ?_) (fun c4 => ?_)
  · skip
    refine lv_aload_n hx hb dX5_undo_13 rfl (lv_at hl 0 rfl) ?_
    refine lv_dup hx hb dX5_undo_14 rfl ?_
    refine va_get (D := G.1) (ci := 4) (v := .int (nI ch)) (C := RX5) (T := TX5) (N := 21) hx hb hts in_X5 hown hK hP 0 rfl rfl 3 (by decide) (hts _ q1730) (fun _ h9 => h9) rfl dX5_undo_15 ?_
    refine lv_iconst (v := nI 1) hx hb dX5_undo_18 (by decide) ?_
    refine n_isub hx hb (by omega) dX5_undo_19 ?_
    refine va_put (D := G.1) (ci := 4) (v := .int (nI (ch - 1))) (ty := .int) (C := RX5) (T := TX5) (N := 21) hx hb hts in_X5 tyX5 tyX5_ok nmX5 hown hK hP hD hS 0 rfl rfl 3 (by decide) (hts _ q1730) (fun _ h9 => h9) rfl (by decide +kernel) rfl rfl (Nat.le_of_ble_eq_true rfl) dX5_undo_20 (fun H locs hP hD hS => ?_)
    have hP : va_P G.1 CL (MW G mh md nr nc pL pG pB pk bf hi sv (ch - 1) hs inp ty er wy wd rf lt ln th tr mv fo sp wr td) _ := hP
    have hD : va_D A (MW G mh md nr nc pL pG pB pk bf hi sv (ch - 1) hs inp ty er wy wd rf lt ln th tr mv fo sp wr td) := hD
    refine lv_aload_n hx hb dX5_undo_23 rfl (lv_at hl 0 rfl) ?_
    refine va_get (D := G.1) (ci := 4) (v := .ref (md 2)) (C := RX5) (T := TX5) (N := 21) hx hb hts in_X5 hown hK hP 0 rfl rfl 2 (by decide) (hts _ q1729) (fun _ h9 => h9) rfl dX5_undo_24 ?_
    refine lv_aload_n hx hb dX5_undo_27 rfl (lv_at hl 0 rfl) ?_
    refine va_get (D := G.1) (ci := 4) (v := .int (nI (ch - 1))) (C := RX5) (T := TX5) (N := 21) hx hb hts in_X5 hown hK hP 0 rfl rfl 3 (by decide) (hts _ q1730) (fun _ h9 => h9) rfl dX5_undo_28 ?_
    refine lv_bipush (v := nI 32) hx hb dX5_undo_31 (by decide) ?_
    refine n_imul hx hb dX5_undo_33 ?_
    refine lv_aload_n hx hb dX5_undo_34 rfl (lv_at hl 0 rfl) ?_
    refine va_get (D := G.1) (ci := 4) (v := .ref (md 0)) (C := RX5) (T := TX5) (N := 21) hx hb hts in_X5 hown hK hP 0 rfl rfl 0 (by decide) (hts _ q1727) (fun _ h9 => h9) rfl dX5_undo_35 ?_
    refine lv_iconst (v := nI 0) hx hb dX5_undo_38 (by decide) ?_
    refine callSv (As := [.ref (md 2), .int (nI ((ch - 1) * 32)), .ref (md 0), .int (nI 0)]) (rest := []) (wc := (MRW G mh md (gZ (nr, nc, pL, pG, pB, pk)) bf hi sv (ch - 1) hs inp ty er wy wd rf lt ln th tr mv fo sp wr td)) (wr := ([] : va_W)) ⟨hx, hb, hml, hown, hts⟩ (m_X5_copy__hg l G mh md (gZ (nr, nc, pL, pG, pB, pk)) bf hi sv (ch - 1) hs inp ty er wy wd rf lt ln th tr mv fo sp wr td ((ch - 1) * 32) (by first | assumption | omega)) (va_cwS 4 hts (lw_S q1803 q1804 q105 q1805) rfl rfl rfl (by decide +kernel) ⟨Nat.le_of_ble_eq_true rfl, Nat.le_of_ble_eq_true rfl⟩) hK hZ hA hP hD hS [0, 1, 2, 3, 4, 5, 6, 7, 8, 9] [] rfl rfl (by decide) (by decide) (by decide) rfl hl.1 (Nat.le_of_ble_eq_true rfl) ⟨Nat.le_of_ble_eq_true rfl, Nat.le_of_ble_eq_true rfl⟩ rfl dX5_undo_39 (fun u9 H locs hw9 hP hD hS => ?_)
    have hP : va_P G.1 CL (MRW G mh md (va_cpy hi (gZ (nr, nc, pL, pG, pB, pk)) ((ch - 1) * 32) 0 32) bf hi sv (ch - 1) hs inp ty er wy wd rf lt ln th tr mv fo sp wr td) _ := hP
    have hD : va_D A (MRW G mh md (va_cpy hi (gZ (nr, nc, pL, pG, pB, pk)) ((ch - 1) * 32) 0 32) bf hi sv (ch - 1) hs inp ty er wy wd rf lt ln th tr mv fo sp wr td) := hD
    obtain ⟨hP, hD⟩ := say_i (gZ ((zl.getLastD (nr, nc, pL, pG, pB, pk)).1, (zl.getLastD (nr, nc, pL, pG, pB, pk)).2.1, (zl.getLastD (nr, nc, pL, pG, pB, pk)).2.2.1, (zl.getLastD (nr, nc, pL, pG, pB, pk)).2.2.2.1, (zl.getLastD (nr, nc, pL, pG, pB, pk)).2.2.2.2.1, (zl.getLastD (nr, nc, pL, pG, pB, pk)).2.2.2.2.2)) hP hD 1 rfl (HistA.last hH (by omega) (nr, nc, pL, pG, pB, pk))
    have hP : va_P G.1 CL (MW G mh md ((zl.getLastD (nr, nc, pL, pG, pB, pk)).1) ((zl.getLastD (nr, nc, pL, pG, pB, pk)).2.1) ((zl.getLastD (nr, nc, pL, pG, pB, pk)).2.2.1) ((zl.getLastD (nr, nc, pL, pG, pB, pk)).2.2.2.1) ((zl.getLastD (nr, nc, pL, pG, pB, pk)).2.2.2.2.1) ((zl.getLastD (nr, nc, pL, pG, pB, pk)).2.2.2.2.2) bf hi sv (ch - 1) hs inp ty er wy wd rf lt ln th tr mv fo sp wr td) _ := hP
    have hD : va_D A (MW G mh md ((zl.getLastD (nr, nc, pL, pG, pB, pk)).1) ((zl.getLastD (nr, nc, pL, pG, pB, pk)).2.1) ((zl.getLastD (nr, nc, pL, pG, pB, pk)).2.2.1) ((zl.getLastD (nr, nc, pL, pG, pB, pk)).2.2.2.1) ((zl.getLastD (nr, nc, pL, pG, pB, pk)).2.2.2.2.1) ((zl.getLastD (nr, nc, pL, pG, pB, pk)).2.2.2.2.2) bf hi sv (ch - 1) hs inp ty er wy wd rf lt ln th tr mv fo sp wr td) := hD
    refine lv_aload_n hx hb dX5_undo_42 rfl (lv_at hl 0 rfl) ?_
    refine lv_aload_n hx hb dX5_undo_43 rfl (lv_at hl 0 rfl) ?_
    refine va_get (D := G.1) (ci := 4) (v := .int (nI (ch - 1))) (C := RX5) (T := TX5) (N := 21) hx hb hts in_X5 hown hK hP 0 rfl rfl 3 (by decide) (hts _ q1730) (fun _ h9 => h9) rfl dX5_undo_44 ?_
    refine callVi (As := [.int (nI (ch - 1))]) (rest := []) (wc := (MW G mh md ((zl.getLastD (nr, nc, pL, pG, pB, pk)).1) ((zl.getLastD (nr, nc, pL, pG, pB, pk)).2.1) ((zl.getLastD (nr, nc, pL, pG, pB, pk)).2.2.1) ((zl.getLastD (nr, nc, pL, pG, pB, pk)).2.2.2.1) ((zl.getLastD (nr, nc, pL, pG, pB, pk)).2.2.2.2.1) ((zl.getLastD (nr, nc, pL, pG, pB, pk)).2.2.2.2.2) bf hi sv (ch - 1) hs inp ty er wy wd rf lt ln th tr mv fo sp wr td)) (wr := ([] : va_W)) ⟨hx, hb, hml, hown, hts⟩ (m_X5_done l G mh md ((zl.getLastD (nr, nc, pL, pG, pB, pk)).1) ((zl.getLastD (nr, nc, pL, pG, pB, pk)).2.1) ((zl.getLastD (nr, nc, pL, pG, pB, pk)).2.2.1) ((zl.getLastD (nr, nc, pL, pG, pB, pk)).2.2.2.1) ((zl.getLastD (nr, nc, pL, pG, pB, pk)).2.2.2.2.1) ((zl.getLastD (nr, nc, pL, pG, pB, pk)).2.2.2.2.2) bf hi sv (ch - 1) hs inp ty er wy wd rf lt ln th tr mv fo sp wr td (nI (ch - 1)) ) (cwV 1 hts (lw_V q1821 q1823 qs39 q105 q1824) rfl rfl rfl (by decide +kernel) ⟨Nat.le_of_ble_eq_true rfl, Nat.le_of_ble_eq_true rfl⟩) hK hZ hA hP hD hS [0, 1, 2, 3, 4, 5, 6, 7, 8, 9] [] rfl rfl (by decide) (by decide) (by decide) 0 4 rfl rfl rfl hl.1 (Nat.le_of_ble_eq_true rfl) ⟨Nat.le_of_ble_eq_true rfl, Nat.le_of_ble_eq_true rfl⟩ rfl dX5_undo_47 (fun r9 u9 H locs hw9 hP hD hS => ?_)
    subst hw9
    have hP : va_P G.1 CL (MW G mh md ((zl.getLastD (nr, nc, pL, pG, pB, pk)).1) ((zl.getLastD (nr, nc, pL, pG, pB, pk)).2.1) ((zl.getLastD (nr, nc, pL, pG, pB, pk)).2.2.1) ((zl.getLastD (nr, nc, pL, pG, pB, pk)).2.2.2.1) ((zl.getLastD (nr, nc, pL, pG, pB, pk)).2.2.2.2.1) ((zl.getLastD (nr, nc, pL, pG, pB, pk)).2.2.2.2.2) bf hi sv (ch - 1) hs inp ty er wy wd rf lt ln (nI 0) tr mv fo sp wr td) _ := hP
    have hD : va_D A (MW G mh md ((zl.getLastD (nr, nc, pL, pG, pB, pk)).1) ((zl.getLastD (nr, nc, pL, pG, pB, pk)).2.1) ((zl.getLastD (nr, nc, pL, pG, pB, pk)).2.2.1) ((zl.getLastD (nr, nc, pL, pG, pB, pk)).2.2.2.1) ((zl.getLastD (nr, nc, pL, pG, pB, pk)).2.2.2.2.1) ((zl.getLastD (nr, nc, pL, pG, pB, pk)).2.2.2.2.2) bf hi sv (ch - 1) hs inp ty er wy wd rf lt ln (nI 0) tr mv fo sp wr td) := hD
    have e_th : (nI 0) = (if ch = 0 then nI 1 else nI 0) := (if_neg (by omega)).symm
    rw [e_th] at hP hD
    subst hQ
    exact ret_i hx hb hr hlk rf ⟨rfl, hH.pop⟩ hP hD hS rfl dX5_undo_50
  · skip
    refine lv_aload_n hx hb dX5_undo_7 rfl (lv_at hl 0 rfl) ?_
    refine lv_iconst (v := nI 1) hx hb dX5_undo_8 (by decide) ?_
    refine callVi (As := [.int (nI 1)]) (rest := []) (wc := (MW G mh md nr nc pL pG pB pk bf hi sv ch hs inp ty er wy wd rf lt ln th tr mv fo sp wr td)) (wr := ([] : va_W)) ⟨hx, hb, hml, hown, hts⟩ (m_X5_fails l G mh md nr nc pL pG pB pk bf hi sv ch hs inp ty er wy wd rf lt ln th tr mv fo sp wr td (nI 1) ) (cwV 1 hts (lw_V q1813 q1815 qs37 q105 q1816) rfl rfl rfl (by decide +kernel) ⟨Nat.le_of_ble_eq_true rfl, Nat.le_of_ble_eq_true rfl⟩) hK hZ hA hP hD hS [0, 1, 2, 3, 4, 5, 6, 7, 8, 9] [] rfl rfl (by decide) (by decide) (by decide) 0 4 rfl rfl rfl hl.1 (Nat.le_of_ble_eq_true rfl) ⟨Nat.le_of_ble_eq_true rfl, Nat.le_of_ble_eq_true rfl⟩ rfl dX5_undo_9 (fun r9 u9 H locs hw9 hP hD hS => ?_)
    subst hw9
    have hP : va_P G.1 CL (MW G mh md nr nc pL pG pB pk bf hi sv ch hs inp ty er wy wd false lt ln (nI 1) tr mv fo sp wr td) _ := hP
    have hD : va_D A (MW G mh md nr nc pL pG pB pk bf hi sv ch hs inp ty er wy wd false lt ln (nI 1) tr mv fo sp wr td) := hD
    subst hQ
    subst c4
    rw [show zl = [] from List.eq_nil_of_length_eq_zero hH.1.symm]
    exact ret_i hx hb hr hlk false ⟨rfl, (by rw [show zl = [] from List.eq_nil_of_length_eq_zero hH.1.symm] at hH; exact hH)⟩ hP hD hS rfl dX5_undo_12
set_option maxHeartbeats 4000000 in
set_option maxRecDepth 100000 in
theorem m_X5_save (l : Launch) (G : GG) (mh : Nat) (md : Nat → Nat) (nr : Nat) (nc : Nat) (pL : Nat → Nat) (pG : Nat → Nat) (pB : Nat → Bool) (pk : Nat → Int32) (bf : Nat → Int32) (hi : Nat → Int32) (sv : Nat → Int32) (ch : Nat) (hs : Bool) (inp : Nat → Nat) (ty : Nat) (er : Int32) (wy : Int32) (wd : Int32) (rf : Bool) (lt : Nat → Nat) (ln : Nat) (th : Int32) (tr : Nat → Nat) (mv : Nat → Nat) (fo : Int32) (sp : Nat) (wr : Bool) (td : Nat → Int32) (hd : 2 ≤ nr ∧ nr ≤ 3 ∧ 2 ≤ nc ∧ nc ≤ 3) (hLR : ∀ q, q < nr * nc → 97 ≤ pL q ∧ pL q ≤ 108) (hKR : ∀ q, q < nr * nc → pG q = 46 ∨ (97 ≤ pG q ∧ pG q ≤ 108)) : MM l G yX5_save cX5_save 1 (some .int) ⟨3, 0, 0, 62⟩ [.ref mh] (MW G mh md nr nc pL pG pB pk bf hi sv ch hs inp ty er wy wd rf lt ln th tr mv fo sp wr td) (Qi_ G (fun (r : Int32) (u : (Nat → Nat)) => r = nI (hm nr nc pL pG)) (fun (u : (Nat → Nat)) => (MW G mh md nr nc pL pG pB pk bf hi (gZ (nr, nc, pL, pG, pB, pk)) ch true inp ty er wy wd rf lt ln (nI 0) u mv fo sp wr td))) := by
  refine MM.of (by decide) (Nat.le_of_ble_eq_true rfl) ?_
  intro p e s m args below meth cd A C hini hA hK hZ hP hD ls hl
  generalize hQ : MQ below ((Qi_ G (fun (r : Int32) (u : (Nat → Nat)) => r = nI (hm nr nc pL pG)) (fun (u : (Nat → Nat)) => (MW G mh md nr nc pL pG pB pk bf hi (gZ (nr, nc, pL, pG, pB, pk)) ch true inp ty er wy wd rf lt ln (nI 0) u mv fo sp wr td))) A) args s (⟨3, 0, 0, 62⟩ : Room).cells (⟨3, 0, 0, 62⟩ : Room).slots A = Q
  obtain ⟨hx, hb, hr, hts, hown, hlk, hml⟩ := C
  have hown : s.vm.findClass RX5 = some m.cls := hown
  have hS : va_S A s.heap s.heap [] := va_S.rf
  have hl : lv_has ls 1 [(0, .ref mh)] := hl
  have hmu := dm_mul hd
  refine lv_aload_n hx hb dX5_save_0 rfl (lv_at hl 0 rfl) ?_
  refine va_get (D := G.1) (ci := 4) (v := .ref (md 0)) (C := RX5) (T := TX5) (N := 21) hx hb hts in_X5 hown hK hP 0 rfl rfl 0 (by decide) (hts _ q1727) (fun _ h9 => h9) rfl dX5_save_1 ?_
  refine lv_iconst (v := nI 0) hx hb dX5_save_4 (by decide) ?_
  refine lv_aload_n hx hb dX5_save_5 rfl (lv_at hl 0 rfl) ?_
  refine va_get (D := G.1) (ci := 4) (v := .ref (md 3)) (C := RX5) (T := TX5) (N := 21) hx hb hts in_X5 hown hK hP 0 rfl rfl 4 (by decide) (hts _ q1731) (fun _ h9 => h9) rfl dX5_save_6 ?_
  refine lv_iconst (v := nI 0) hx hb dX5_save_9 (by decide) ?_
  refine callSv (As := [.ref (md 0), .int (nI 0), .ref (md 3), .int (nI 0)]) (rest := []) (wc := (MRW G mh md (gZ (nr, nc, pL, pG, pB, pk)) bf hi sv ch hs inp ty er wy wd rf lt ln th tr mv fo sp wr td)) (wr := ([] : va_W)) ⟨hx, hb, hml, hown, hts⟩ (m_X5_copy__gs l G mh md (gZ (nr, nc, pL, pG, pB, pk)) bf hi sv ch hs inp ty er wy wd rf lt ln th tr mv fo sp wr td ) (va_cwS 4 hts (lw_S q1803 q1804 q105 q1805) rfl rfl rfl (by decide +kernel) ⟨Nat.le_of_ble_eq_true rfl, Nat.le_of_ble_eq_true rfl⟩) hK hZ hA hP hD hS [0, 1, 2, 3, 4, 5, 6, 7, 8, 9] [] rfl rfl (by decide) (by decide) (by decide) rfl hl.1 (Nat.le_of_ble_eq_true rfl) ⟨Nat.le_of_ble_eq_true rfl, Nat.le_of_ble_eq_true rfl⟩ rfl dX5_save_10 (fun u9 H locs hw9 hP hD hS => ?_)
  have hP : va_P G.1 CL (MRW G mh md (gZ (nr, nc, pL, pG, pB, pk)) bf hi (va_cpy (gZ (nr, nc, pL, pG, pB, pk)) sv 0 0 32) ch hs inp ty er wy wd rf lt ln th tr mv fo sp wr td) _ := hP
  have hD : va_D A (MRW G mh md (gZ (nr, nc, pL, pG, pB, pk)) bf hi (va_cpy (gZ (nr, nc, pL, pG, pB, pk)) sv 0 0 32) ch hs inp ty er wy wd rf lt ln th tr mv fo sp wr td) := hD
  have hP : va_P G.1 CL (MW G mh md nr nc pL pG pB pk bf hi (va_cpy (gZ (nr, nc, pL, pG, pB, pk)) sv 0 0 32) ch hs inp ty er wy wd rf lt ln th tr mv fo sp wr td) _ := hP
  have hD : va_D A (MW G mh md nr nc pL pG pB pk bf hi (va_cpy (gZ (nr, nc, pL, pG, pB, pk)) sv 0 0 32) ch hs inp ty er wy wd rf lt ln th tr mv fo sp wr td) := hD
  obtain ⟨hP, hD⟩ := say_i (gZ (nr, nc, pL, pG, pB, pk)) hP hD 4 rfl (fun j hj => cpy_a hj)
  have hP : va_P G.1 CL (MW G mh md nr nc pL pG pB pk bf hi (gZ (nr, nc, pL, pG, pB, pk)) ch hs inp ty er wy wd rf lt ln th tr mv fo sp wr td) _ := hP
  have hD : va_D A (MW G mh md nr nc pL pG pB pk bf hi (gZ (nr, nc, pL, pG, pB, pk)) ch hs inp ty er wy wd rf lt ln th tr mv fo sp wr td) := hD
  refine lv_aload_n hx hb dX5_save_13 rfl (lv_at hl 0 rfl) ?_
  refine lv_iconst (v := nI 1) hx hb dX5_save_14 (by decide) ?_
  refine va_put (D := G.1) (ci := 4) (v := .int (bI true)) (ty := .boolean) (C := RX5) (T := TX5) (N := 21) hx hb hts in_X5 tyX5 tyX5_ok nmX5 hown hK hP hD hS 0 rfl rfl 5 (by decide) (hts _ q1732) (fun _ h9 => h9) rfl (by decide +kernel) (bI_nar _) rfl (Nat.le_of_ble_eq_true rfl) dX5_save_15 (fun H locs hP hD hS => ?_)
  have hP : va_P G.1 CL (MW G mh md nr nc pL pG pB pk bf hi (gZ (nr, nc, pL, pG, pB, pk)) ch true inp ty er wy wd rf lt ln th tr mv fo sp wr td) _ := hP
  have hD : va_D A (MW G mh md nr nc pL pG pB pk bf hi (gZ (nr, nc, pL, pG, pB, pk)) ch true inp ty er wy wd rf lt ln th tr mv fo sp wr td) := hD
  refine lv_aload_n hx hb dX5_save_18 rfl (lv_at hl 0 rfl) ?_
  refine lv_aload_n hx hb dX5_save_19 rfl (lv_at hl 0 rfl) ?_
  refine callVi (As := []) (rest := [.ref mh]) (wc := (MW G mh md nr nc pL pG pB pk bf hi (gZ (nr, nc, pL, pG, pB, pk)) ch true inp ty er wy wd rf lt ln th tr mv fo sp wr td)) (wr := ([] : va_W)) ⟨hx, hb, hml, hown, hts⟩ (m_X5_homes l G mh md nr nc pL pG pB pk bf hi (gZ (nr, nc, pL, pG, pB, pk)) ch true inp ty er wy wd rf lt ln th tr mv fo sp wr td (by first | assumption | omega) (by first | assumption | omega) (by first | assumption | omega)) (cwV 0 hts (lw_V q1887 q1889 qs51 q105 q1890) rfl rfl rfl (by decide +kernel) ⟨Nat.le_of_ble_eq_true rfl, Nat.le_of_ble_eq_true rfl⟩) hK hZ hA hP hD hS [0, 1, 2, 3, 4, 5, 6, 7, 8, 9] [] rfl rfl (by decide) (by decide) (by decide) 0 4 rfl rfl rfl hl.1 (Nat.le_of_ble_eq_true rfl) ⟨Nat.le_of_ble_eq_true rfl, Nat.le_of_ble_eq_true rfl⟩ rfl dX5_save_20 (fun r9 u9 H locs hw9 hP hD hS => ?_)
  obtain ⟨tr1_2, e9⟩ : ∃ z, z = u9 := ⟨_, rfl⟩
  subst e9
  obtain ⟨hr9, hw20⟩ := hw9
  subst hr9
  have hw20 : ∀ q, q < nr * nc → tr1_2 q = pL q - 97 := hw20
  have hP : va_P G.1 CL (MW G mh md nr nc pL pG pB pk bf hi (gZ (nr, nc, pL, pG, pB, pk)) ch true inp ty er wy wd rf lt ln th tr1_2 mv fo sp wr td) _ := hP
  have hD : va_D A (MW G mh md nr nc pL pG pB pk bf hi (gZ (nr, nc, pL, pG, pB, pk)) ch true inp ty er wy wd rf lt ln th tr1_2 mv fo sp wr td) := hD
  refine callVi (As := [.int (nI (hm nr nc pL pG))]) (rest := []) (wc := (MW G mh md nr nc pL pG pB pk bf hi (gZ (nr, nc, pL, pG, pB, pk)) ch true inp ty er wy wd rf lt ln th tr1_2 mv fo sp wr td)) (wr := ([] : va_W)) ⟨hx, hb, hml, hown, hts⟩ (m_X5_done l G mh md nr nc pL pG pB pk bf hi (gZ (nr, nc, pL, pG, pB, pk)) ch true inp ty er wy wd rf lt ln th tr1_2 mv fo sp wr td (nI (hm nr nc pL pG)) ) (cwV 1 hts (lw_V q1821 q1823 qs39 q105 q1824) rfl rfl rfl (by decide +kernel) ⟨Nat.le_of_ble_eq_true rfl, Nat.le_of_ble_eq_true rfl⟩) hK hZ hA hP hD hS [0, 1, 2, 3, 4, 5, 6, 7, 8, 9] [] rfl rfl (by decide) (by decide) (by decide) 0 4 rfl rfl rfl hl.1 (Nat.le_of_ble_eq_true rfl) ⟨Nat.le_of_ble_eq_true rfl, Nat.le_of_ble_eq_true rfl⟩ rfl dX5_save_23 (fun r9 u9 H locs hw9 hP hD hS => ?_)
  subst hw9
  have hP : va_P G.1 CL (MW G mh md nr nc pL pG pB pk bf hi (gZ (nr, nc, pL, pG, pB, pk)) ch true inp ty er wy wd rf lt ln (nI 0) tr1_2 mv fo sp wr td) _ := hP
  have hD : va_D A (MW G mh md nr nc pL pG pB pk bf hi (gZ (nr, nc, pL, pG, pB, pk)) ch true inp ty er wy wd rf lt ln (nI 0) tr1_2 mv fo sp wr td) := hD
  subst hQ
  exact ret_i hx hb hr hlk tr1_2 rfl hP hD hS rfl dX5_save_26
set_option maxHeartbeats 4000000 in
set_option maxRecDepth 100000 in
theorem m_X5_restore (l : Launch) (G : GG) (mh : Nat) (md : Nat → Nat) (nr : Nat) (nc : Nat) (pL : Nat → Nat) (pG : Nat → Nat) (pB : Nat → Bool) (pk : Nat → Int32) (bf : Nat → Int32) (hi : Nat → Int32) (ch : Nat) (hs : Bool) (inp : Nat → Nat) (ty : Nat) (er : Int32) (wy : Int32) (wd : Int32) (rf : Bool) (lt : Nat → Nat) (ln : Nat) (th : Int32) (tr : Nat → Nat) (mv : Nat → Nat) (fo : Int32) (sp : Nat) (wr : Bool) (td : Nat → Int32) (sz : ZT) (hsz : hs = true → (2 ≤ sz.1 ∧ sz.1 ≤ 3 ∧ 2 ≤ sz.2.1 ∧ sz.2.1 ≤ 3) ∧ (∀ q, q < sz.1 * sz.2.1 → 97 ≤ sz.2.2.1 q ∧ sz.2.2.1 q ≤ 108) ∧ (∀ q, q < sz.1 * sz.2.1 → sz.2.2.2.1 q = 46 ∨ (97 ≤ sz.2.2.2.1 q ∧ sz.2.2.2.1 q ≤ 108))) : MM l G yX5_restore cX5_restore 1 (some .int) ⟨3, 0, 0, 62⟩ [.ref mh] (MW G mh md nr nc pL pG pB pk bf hi (gZ sz) ch hs inp ty er wy wd rf lt ln th tr mv fo sp wr td) (Qi_ G (fun (r : Int32) (u : (Nat → Nat) × (Bool)) => r = (if hs = true then nI (hm sz.1 sz.2.1 sz.2.2.1 sz.2.2.2.1) else nI 0)) (fun (u : (Nat → Nat) × (Bool)) => (MW G mh md ((rsZ hs sz (nr, nc, pL, pG, pB, pk)).1) ((rsZ hs sz (nr, nc, pL, pG, pB, pk)).2.1) ((rsZ hs sz (nr, nc, pL, pG, pB, pk)).2.2.1) ((rsZ hs sz (nr, nc, pL, pG, pB, pk)).2.2.2.1) ((rsZ hs sz (nr, nc, pL, pG, pB, pk)).2.2.2.2.1) ((rsZ hs sz (nr, nc, pL, pG, pB, pk)).2.2.2.2.2) bf hi (gZ sz) (if hs = true then 0 else ch) hs inp ty er wy wd u.2 lt ln (if hs = true then nI 0 else nI 1) u.1 mv fo sp wr td))) := by
  refine MM.of (by decide) (Nat.le_of_ble_eq_true rfl) ?_
  intro p e s m args below meth cd A C hini hA hK hZ hP hD ls hl
  generalize hQ : MQ below ((Qi_ G (fun (r : Int32) (u : (Nat → Nat) × (Bool)) => r = (if hs = true then nI (hm sz.1 sz.2.1 sz.2.2.1 sz.2.2.2.1) else nI 0)) (fun (u : (Nat → Nat) × (Bool)) => (MW G mh md ((rsZ hs sz (nr, nc, pL, pG, pB, pk)).1) ((rsZ hs sz (nr, nc, pL, pG, pB, pk)).2.1) ((rsZ hs sz (nr, nc, pL, pG, pB, pk)).2.2.1) ((rsZ hs sz (nr, nc, pL, pG, pB, pk)).2.2.2.1) ((rsZ hs sz (nr, nc, pL, pG, pB, pk)).2.2.2.2.1) ((rsZ hs sz (nr, nc, pL, pG, pB, pk)).2.2.2.2.2) bf hi (gZ sz) (if hs = true then 0 else ch) hs inp ty er wy wd u.2 lt ln (if hs = true then nI 0 else nI 1) u.1 mv fo sp wr td))) A) args s (⟨3, 0, 0, 62⟩ : Room).cells (⟨3, 0, 0, 62⟩ : Room).slots A = Q
  obtain ⟨hx, hb, hr, hts, hown, hlk, hml⟩ := C
  have hown : s.vm.findClass RX5 = some m.cls := hown
  have hS : va_S A s.heap s.heap [] := va_S.rf
  have hl : lv_has ls 1 [(0, .ref mh)] := hl
  refine lv_aload_n hx hb dX5_restore_0 rfl (lv_at hl 0 rfl) ?_
  refine va_get (D := G.1) (ci := 4) (v := .int (bI hs)) (C := RX5) (T := TX5) (N := 21) hx hb hts in_X5 hown hK hP 0 rfl rfl 5 (by decide) (hts _ q1732) (fun _ h9 => h9) rfl dX5_restore_1 ?_
  refine b_if_ne (tgt := 13) hx hb dX5_restore_4 (by decide) (fun c4 => ?_) (fun c4 => ?_)
  · skip
    refine lv_aload_n hx hb dX5_restore_13 rfl (lv_at hl 0 rfl) ?_
    refine va_get (D := G.1) (ci := 4) (v := .ref (md 3)) (C := RX5) (T := TX5) (N := 21) hx hb hts in_X5 hown hK hP 0 rfl rfl 4 (by decide) (hts _ q1731) (fun _ h9 => h9) rfl dX5_restore_14 ?_
    refine lv_iconst (v := nI 0) hx hb dX5_restore_17 (by decide) ?_
    refine lv_aload_n hx hb dX5_restore_18 rfl (lv_at hl 0 rfl) ?_
    refine va_get (D := G.1) (ci := 4) (v := .ref (md 0)) (C := RX5) (T := TX5) (N := 21) hx hb hts in_X5 hown hK hP 0 rfl rfl 0 (by decide) (hts _ q1727) (fun _ h9 => h9) rfl dX5_restore_19 ?_
    refine lv_iconst (v := nI 0) hx hb dX5_restore_22 (by decide) ?_
    refine callSv (As := [.ref (md 3), .int (nI 0), .ref (md 0), .int (nI 0)]) (rest := []) (wc := (MRW G mh md (gZ (nr, nc, pL, pG, pB, pk)) bf hi (gZ sz) ch hs inp ty er wy wd rf lt ln th tr mv fo sp wr td)) (wr := ([] : va_W)) ⟨hx, hb, hml, hown, hts⟩ (m_X5_copy__sg l G mh md (gZ (nr, nc, pL, pG, pB, pk)) bf hi (gZ sz) ch hs inp ty er wy wd rf lt ln th tr mv fo sp wr td ) (va_cwS 4 hts (lw_S q1803 q1804 q105 q1805) rfl rfl rfl (by decide +kernel) ⟨Nat.le_of_ble_eq_true rfl, Nat.le_of_ble_eq_true rfl⟩) hK hZ hA hP hD hS [0, 1, 2, 3, 4, 5, 6, 7, 8, 9] [] rfl rfl (by decide) (by decide) (by decide) rfl hl.1 (Nat.le_of_ble_eq_true rfl) ⟨Nat.le_of_ble_eq_true rfl, Nat.le_of_ble_eq_true rfl⟩ rfl dX5_restore_23 (fun u9 H locs hw9 hP hD hS => ?_)
    have hP : va_P G.1 CL (MRW G mh md (va_cpy (gZ sz) (gZ (nr, nc, pL, pG, pB, pk)) 0 0 32) bf hi (gZ sz) ch hs inp ty er wy wd rf lt ln th tr mv fo sp wr td) _ := hP
    have hD : va_D A (MRW G mh md (va_cpy (gZ sz) (gZ (nr, nc, pL, pG, pB, pk)) 0 0 32) bf hi (gZ sz) ch hs inp ty er wy wd rf lt ln th tr mv fo sp wr td) := hD
    obtain ⟨hP, hD⟩ := say_i (gZ (sz.1, sz.2.1, sz.2.2.1, sz.2.2.2.1, sz.2.2.2.2.1, sz.2.2.2.2.2)) hP hD 1 rfl (fun j hj => cpy_a hj)
    have hP : va_P G.1 CL (MW G mh md sz.1 sz.2.1 sz.2.2.1 sz.2.2.2.1 sz.2.2.2.2.1 sz.2.2.2.2.2 bf hi (gZ sz) ch hs inp ty er wy wd rf lt ln th tr mv fo sp wr td) _ := hP
    have hD : va_D A (MW G mh md sz.1 sz.2.1 sz.2.2.1 sz.2.2.2.1 sz.2.2.2.2.1 sz.2.2.2.2.2 bf hi (gZ sz) ch hs inp ty er wy wd rf lt ln th tr mv fo sp wr td) := hD
    refine lv_aload_n hx hb dX5_restore_26 rfl (lv_at hl 0 rfl) ?_
    refine lv_iconst (v := nI 0) hx hb dX5_restore_27 (by decide) ?_
    refine va_put (D := G.1) (ci := 4) (v := .int (nI 0)) (ty := .int) (C := RX5) (T := TX5) (N := 21) hx hb hts in_X5 tyX5 tyX5_ok nmX5 hown hK hP hD hS 0 rfl rfl 3 (by decide) (hts _ q1730) (fun _ h9 => h9) rfl (by decide +kernel) rfl rfl (Nat.le_of_ble_eq_true rfl) dX5_restore_28 (fun H locs hP hD hS => ?_)
    have hP : va_P G.1 CL (MW G mh md sz.1 sz.2.1 sz.2.2.1 sz.2.2.2.1 sz.2.2.2.2.1 sz.2.2.2.2.2 bf hi (gZ sz) 0 hs inp ty er wy wd rf lt ln th tr mv fo sp wr td) _ := hP
    have hD : va_D A (MW G mh md sz.1 sz.2.1 sz.2.2.1 sz.2.2.2.1 sz.2.2.2.2.1 sz.2.2.2.2.2 bf hi (gZ sz) 0 hs inp ty er wy wd rf lt ln th tr mv fo sp wr td) := hD
    refine lv_aload_n hx hb dX5_restore_31 rfl (lv_at hl 0 rfl) ?_
    refine lv_aload_n hx hb dX5_restore_32 rfl (lv_at hl 0 rfl) ?_
    refine callVi (As := []) (rest := [.ref mh]) (wc := (MW G mh md sz.1 sz.2.1 sz.2.2.1 sz.2.2.2.1 sz.2.2.2.2.1 sz.2.2.2.2.2 bf hi (gZ sz) 0 hs inp ty er wy wd rf lt ln th tr mv fo sp wr td)) (wr := ([] : va_W)) ⟨hx, hb, hml, hown, hts⟩ (m_X5_homes l G mh md sz.1 sz.2.1 sz.2.2.1 sz.2.2.2.1 sz.2.2.2.2.1 sz.2.2.2.2.2 bf hi (gZ sz) 0 hs inp ty er wy wd rf lt ln th tr mv fo sp wr td (hsz c4).1 (hsz c4).2.1 (hsz c4).2.2) (cwV 0 hts (lw_V q1887 q1889 qs51 q105 q1890) rfl rfl rfl (by decide +kernel) ⟨Nat.le_of_ble_eq_true rfl, Nat.le_of_ble_eq_true rfl⟩) hK hZ hA hP hD hS [0, 1, 2, 3, 4, 5, 6, 7, 8, 9] [] rfl rfl (by decide) (by decide) (by decide) 0 4 rfl rfl rfl hl.1 (Nat.le_of_ble_eq_true rfl) ⟨Nat.le_of_ble_eq_true rfl, Nat.le_of_ble_eq_true rfl⟩ rfl dX5_restore_33 (fun r9 u9 H locs hw9 hP hD hS => ?_)
    obtain ⟨tr1_2, e9⟩ : ∃ z, z = u9 := ⟨_, rfl⟩
    subst e9
    obtain ⟨hr9, hw33⟩ := hw9
    subst hr9
    have hw33 : ∀ q, q < sz.1 * sz.2.1 → tr1_2 q = sz.2.2.1 q - 97 := hw33
    have hP : va_P G.1 CL (MW G mh md sz.1 sz.2.1 sz.2.2.1 sz.2.2.2.1 sz.2.2.2.2.1 sz.2.2.2.2.2 bf hi (gZ sz) 0 hs inp ty er wy wd rf lt ln th tr1_2 mv fo sp wr td) _ := hP
    have hD : va_D A (MW G mh md sz.1 sz.2.1 sz.2.2.1 sz.2.2.2.1 sz.2.2.2.2.1 sz.2.2.2.2.2 bf hi (gZ sz) 0 hs inp ty er wy wd rf lt ln th tr1_2 mv fo sp wr td) := hD
    refine callVi (As := [.int (nI (hm sz.1 sz.2.1 sz.2.2.1 sz.2.2.2.1))]) (rest := []) (wc := (MW G mh md sz.1 sz.2.1 sz.2.2.1 sz.2.2.2.1 sz.2.2.2.2.1 sz.2.2.2.2.2 bf hi (gZ sz) 0 hs inp ty er wy wd rf lt ln th tr1_2 mv fo sp wr td)) (wr := ([] : va_W)) ⟨hx, hb, hml, hown, hts⟩ (m_X5_done l G mh md sz.1 sz.2.1 sz.2.2.1 sz.2.2.2.1 sz.2.2.2.2.1 sz.2.2.2.2.2 bf hi (gZ sz) 0 hs inp ty er wy wd rf lt ln th tr1_2 mv fo sp wr td (nI (hm sz.1 sz.2.1 sz.2.2.1 sz.2.2.2.1)) ) (cwV 1 hts (lw_V q1821 q1823 qs39 q105 q1824) rfl rfl rfl (by decide +kernel) ⟨Nat.le_of_ble_eq_true rfl, Nat.le_of_ble_eq_true rfl⟩) hK hZ hA hP hD hS [0, 1, 2, 3, 4, 5, 6, 7, 8, 9] [] rfl rfl (by decide) (by decide) (by decide) 0 4 rfl rfl rfl hl.1 (Nat.le_of_ble_eq_true rfl) ⟨Nat.le_of_ble_eq_true rfl, Nat.le_of_ble_eq_true rfl⟩ rfl dX5_restore_36 (fun r9 u9 H locs hw9 hP hD hS => ?_)
    subst hw9
    have hP : va_P G.1 CL (MW G mh md sz.1 sz.2.1 sz.2.2.1 sz.2.2.2.1 sz.2.2.2.2.1 sz.2.2.2.2.2 bf hi (gZ sz) 0 hs inp ty er wy wd rf lt ln (nI 0) tr1_2 mv fo sp wr td) _ := hP
    have hD : va_D A (MW G mh md sz.1 sz.2.1 sz.2.2.1 sz.2.2.2.1 sz.2.2.2.2.1 sz.2.2.2.2.2 bf hi (gZ sz) 0 hs inp ty er wy wd rf lt ln (nI 0) tr1_2 mv fo sp wr td) := hD
    subst hQ
    rw [rsZ, if_pos c4, if_pos c4, if_pos c4, if_pos c4]
    exact ret_i hx hb hr hlk (⟨tr1_2, rf⟩) rfl hP hD hS rfl dX5_restore_39
  · skip
    refine lv_aload_n hx hb dX5_restore_7 rfl (lv_at hl 0 rfl) ?_
    refine lv_iconst (v := nI 1) hx hb dX5_restore_8 (by decide) ?_
    refine callVi (As := [.int (nI 1)]) (rest := []) (wc := (MW G mh md nr nc pL pG pB pk bf hi (gZ sz) ch hs inp ty er wy wd rf lt ln th tr mv fo sp wr td)) (wr := ([] : va_W)) ⟨hx, hb, hml, hown, hts⟩ (m_X5_fails l G mh md nr nc pL pG pB pk bf hi (gZ sz) ch hs inp ty er wy wd rf lt ln th tr mv fo sp wr td (nI 1) ) (cwV 1 hts (lw_V q1813 q1815 qs37 q105 q1816) rfl rfl rfl (by decide +kernel) ⟨Nat.le_of_ble_eq_true rfl, Nat.le_of_ble_eq_true rfl⟩) hK hZ hA hP hD hS [0, 1, 2, 3, 4, 5, 6, 7, 8, 9] [] rfl rfl (by decide) (by decide) (by decide) 0 4 rfl rfl rfl hl.1 (Nat.le_of_ble_eq_true rfl) ⟨Nat.le_of_ble_eq_true rfl, Nat.le_of_ble_eq_true rfl⟩ rfl dX5_restore_9 (fun r9 u9 H locs hw9 hP hD hS => ?_)
    subst hw9
    have hP : va_P G.1 CL (MW G mh md nr nc pL pG pB pk bf hi (gZ sz) ch hs inp ty er wy wd false lt ln (nI 1) tr mv fo sp wr td) _ := hP
    have hD : va_D A (MW G mh md nr nc pL pG pB pk bf hi (gZ sz) ch hs inp ty er wy wd false lt ln (nI 1) tr mv fo sp wr td) := hD
    subst hQ
    rw [rsZ, if_neg (by rw [c4]; decide), if_neg (by rw [c4]; decide), if_neg (by rw [c4]; decide), if_neg (by rw [c4]; decide)]
    exact ret_i hx hb hr hlk (⟨tr, false⟩) rfl hP hD hS rfl dX5_restore_12
