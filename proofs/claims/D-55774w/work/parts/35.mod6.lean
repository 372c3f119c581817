/-! ===== parity: permutations, inversions, cycles ===== -/
theorem pp_ne {α : Type} {f : Nat → α} {k j : Nat} {v : α} (h : ¬ j = k) : va_up f k v j = f j := va_up_ne f v h
theorem pp_cn_lt {P : Nat → Bool} : ∀ {n k : Nat}, k < n → P k = false → cn P n < n
  | n + 1, k, h, hp => by
    simp only [cn]
    by_cases e : k = n
    · subst e; rw [if_neg (by rw [hp]; decide)]; have := cn_le P k; omega
    · have := pp_cn_lt (n := n) (show k < n by omega) hp
      split <;> omega
theorem pp_cn_all {P : Nat → Bool} : ∀ {n : Nat}, (∀ k, k < n → P k = true) → cn P n = n
  | 0, _ => rfl
  | n + 1, h => by simp only [cn]; rw [pp_cn_all (fun k hk => h k (by omega)), if_pos (h n (by omega))]
theorem pp_cn_pos {P : Nat → Bool} : ∀ {n k : Nat}, k < n → P k = true → 0 < cn P n
  | n + 1, k, h, hp => by
    simp only [cn]
    by_cases e : k = n
    · subst e; rw [if_pos hp]; omega
    · have := pp_cn_pos (n := n) (show k < n by omega) hp; omega
theorem pp_cn_ex {P : Nat → Bool} : ∀ {n : Nat}, 0 < cn P n → ∃ k, k < n ∧ P k = true
  | 0, h => absurd h (Nat.lt_irrefl 0)
  | n + 1, h => by
    simp only [cn] at h
    by_cases e : P n = true
    · exact ⟨n, by omega, e⟩
    · rw [if_neg e] at h
      obtain ⟨k, h1, h2⟩ := pp_cn_ex (n := n) (by omega)
      exact ⟨k, by omega, h2⟩
/-- counting along an injection -/
theorem pp_inj {Q : Nat → Bool} {f : Nat → Nat} {n : Nat} : ∀ {m : Nat} {P : Nat → Bool}, (∀ v, v < m → Q v = true → f v < n ∧ P (f v) = true) → (∀ u v, u < m → v < m → Q u = true → Q v = true → f u = f v → u = v) → cn Q m ≤ cn P n
  | 0, _, _, _ => Nat.zero_le _
  | m + 1, P, h1, h2 => by
    simp only [cn]
    by_cases hq : Q m = true
    · rw [if_pos hq]
      obtain ⟨a1, a2⟩ := h1 m (by omega) hq
      have e := cn_up_f (P := P) a1 a2
      have ih := pp_inj (m := m) (P := va_up P (f m) false) (fun v hv hQ => by
        obtain ⟨b1, b2⟩ := h1 v (by omega) hQ
        refine ⟨b1, ?_⟩
        rw [pp_ne (fun z => absurd (h2 v m (by omega) (by omega) hQ hq z) (by omega))]; exact b2) (fun u v hu hv => h2 u v (by omega) (by omega))
      omega
    · rw [if_neg hq]
      exact pp_inj (m := m) (fun v hv => h1 v (by omega)) (fun u v hu hv => h2 u v (by omega) (by omega))
theorem pp_le1 {Q : Nat → Bool} {m : Nat} (h : ∀ u v, u < m → v < m → Q u = true → Q v = true → u = v) : cn Q m ≤ 1 := pp_inj (f := fun _ => 0) (n := 1) (P := fun _ => true) (fun _ _ _ => ⟨by decide, rfl⟩) (fun u v hu hv h1 h2 _ => h u v hu hv h1 h2)
theorem pp_one {Q : Nat → Bool} {m u v : Nat} (h : cn Q m ≤ 1) (hu : u < m) (hv : v < m) (h1 : Q u = true) (h2 : Q v = true) : u = v := by
  by_cases e : u = v
  · exact e
  · have e1 := cn_up_f (P := Q) hu h1
    have : 0 < cn (va_up Q u false) m := pp_cn_pos hv (by rw [pp_ne (fun z => e z.symm)]; exact h2)
    omega
/-- a permutation of the first n -/
def PP (n : Nat) (h : Nat → Nat) : Prop := (∀ x, x < n → h x < n) ∧ ∀ x y, x < n → y < n → h x = h y → x = y
theorem PP.sur {n : Nat} {h : Nat → Nat} (hp : PP n h) {r : Nat} (hr : r < n) : ∃ x, x < n ∧ h x = r := by
  by_cases e : ∃ x, x < n ∧ h x = r
  · exact e
  · have h1 : cn (fun _ => true) n ≤ cn (va_up (fun _ => true) r false) n := pp_inj (f := h) (fun v hv _ => ⟨hp.1 v hv, by rw [pp_ne (fun z => e ⟨v, hv, z⟩)]⟩) (fun u v hu hv _ _ => hp.2 u v hu hv)
    have h2 := cn_up_f (P := fun _ => true) hr rfl
    omega
theorem PP.cg {n : Nat} {h g : Nat → Nat} (hp : PP n h) (e : ∀ x, x < n → g x = h x) : PP n g := ⟨fun x hx => by rw [e x hx]; exact hp.1 x hx, fun x y hx hy z => hp.2 x y hx hy (by rw [← e x hx, ← e y hy]; exact z)⟩
def pSw (h : Nat → Nat) (x y : Nat) : Nat → Nat := fun z => if z = x then h y else if z = y then h x else h z
theorem pSw_x {h : Nat → Nat} {x y : Nat} : pSw h x y x = h y := by unfold pSw; rw [if_pos rfl]
theorem pSw_y {h : Nat → Nat} {x y : Nat} : pSw h x y y = h x := by
  unfold pSw; split
  · rename_i e; rw [e]
  · rw [if_pos rfl]
theorem pSw_z {h : Nat → Nat} {x y z : Nat} (h1 : ¬ z = x) (h2 : ¬ z = y) : pSw h x y z = h z := by unfold pSw; rw [if_neg h1, if_neg h2]
theorem pSw_c {h : Nat → Nat} {x y : Nat} : pSw h x y = pSw h y x := by
  funext z
  by_cases h1 : z = x
  · subst h1; rw [pSw_x, pSw_y]
  · by_cases h2 : z = y
    · subst h2; rw [pSw_x, pSw_y]
    · rw [pSw_z h1 h2, pSw_z h2 h1]
theorem PP.sw {n : Nat} {h : Nat → Nat} (hp : PP n h) {x y : Nat} (hx : x < n) (hy : y < n) : PP n (pSw h x y) := by
  have key : ∀ z, z < n → ∃ w, w < n ∧ pSw h x y z = h w ∧ (z = x → w = y) ∧ (z = y → w = x) ∧ (¬ z = x → ¬ z = y → w = z) := fun z hz => by
    by_cases h1 : z = x
    · subst h1; exact ⟨y, hy, pSw_x, fun _ => rfl, fun e => e.symm, fun e => absurd rfl e⟩
    · by_cases h2 : z = y
      · subst h2; exact ⟨x, hx, pSw_y, fun e => absurd e h1, fun _ => rfl, fun _ e => absurd rfl e⟩
      · exact ⟨z, hz, pSw_z h1 h2, fun e => absurd e h1, fun e => absurd e h2, fun _ _ => rfl⟩
  constructor
  · intro z hz
    obtain ⟨w, hw, e, _⟩ := key z hz
    rw [e]; exact hp.1 w hw
  · intro u v hu hv e
    obtain ⟨w1, hw1, e1, a1, a2, a3⟩ := key u hu
    obtain ⟨w2, hw2, e2, b1, b2, b3⟩ := key v hv
    have hw : w1 = w2 := hp.2 w1 w2 hw1 hw2 (by rw [← e1, ← e2]; exact e)
    by_cases u1 : u = x
    · have := a1 u1
      by_cases v1 : v = x
      · omega
      · by_cases v2 : v = y
        · have := b2 v2; omega
        · have := b3 v1 v2; omega
    · by_cases u2 : u = y
      · have := a2 u2
        by_cases v1 : v = x
        · have := b1 v1; omega
        · by_cases v2 : v = y
          · omega
          · have := b3 v1 v2; omega
      · have := a3 u1 u2
        by_cases v1 : v = x
        · have := b1 v1; omega
        · by_cases v2 : v = y
          · have := b2 v2; omega
          · have := b3 v1 v2; omega
theorem pp_xx {P R : Nat → Bool} : ∀ {n : Nat}, (xr P n ^^ xr R n) = xr (fun k => P k ^^ R k) n
  | 0 => rfl
  | n + 1 => by
    simp only [xr]
    rw [← pp_xx (n := n)]
    cases xr P n <;> cases xr R n <;> cases P n <;> cases R n <;> rfl
theorem pp_x0 {P : Nat → Bool} : ∀ {n : Nat}, (∀ k, k < n → P k = false) → xr P n = false
  | 0, _ => rfl
  | n + 1, h => by simp only [xr]; rw [pp_x0 (fun k hk => h k (by omega)), h n (by omega)]; rfl
theorem pp_xc {P R : Nat → Bool} : ∀ {n : Nat}, (∀ k, k < n → P k = R k) → xr P n = xr R n
  | 0, _ => rfl
  | n + 1, h => by simp only [xr]; rw [pp_xc (fun k hk => h k (by omega)), h n (by omega)]
/-- only one place counts -/
theorem pp_x1 {P : Nat → Bool} {x : Nat} : ∀ {n : Nat}, x < n → (∀ k, k < n → ¬ k = x → P k = false) → xr P n = P x
  | n + 1, hx, h => by
    simp only [xr]
    by_cases e : x = n
    · subst e
      rw [pp_x0 (fun k hk => h k (by omega) (by omega))]; cases P x <;> rfl
    · rw [pp_x1 (n := n) (by omega) (fun k hk => h k (by omega)), h n (by omega) (fun z => e z.symm)]; cases P x <;> rfl
/-- a swap turns the parity of the inversions -/
theorem iv_sw {n : Nat} {h : Nat → Nat} (hp : PP n h) {x y : Nat} (hxy : x < y) (hy : y < n) : iv (pSw h x y) n = !iv h n := by
  have hne : ∀ k, k < n → ¬ k = x → ¬ h k = h x := fun k hk e z => e (hp.2 k x hk (by omega) z)
  have hne2 : ∀ k, k < n → ¬ k = y → ¬ h k = h y := fun k hk e z => e (hp.2 k y hk hy z)
  have hxyv : ¬ h x = h y := fun z => absurd (hp.2 x y (by omega) hy z) (by omega)
  let E : Nat → Bool := fun j => decide (h x < h j) ^^ decide (h y < h j)
  let D : Nat → Bool := fun k => xr (fun j => decide (pSw h x y k < pSw h x y j)) k ^^ xr (fun j => decide (h k < h j)) k
  have key : ∀ m, m ≤ n → xr D m = if m ≤ x then false else if m ≤ y then xr (fun j => !decide (j = x) && E j) m else true := by
    intro m
    induction m with
    | zero => intro _; rw [if_pos (by omega)]; rfl
    | succ m ih =>
      intro hm
      simp only [xr]
      rw [ih (by omega)]
      by_cases c1 : m < x
      · rw [if_pos (by omega), if_pos (by omega)]
        have : D m = false := by
          show (_ ^^ _) = false
          rw [pp_xx]
          refine pp_x0 (fun j hj => ?_)
          rw [pSw_z (by omega) (by omega), pSw_z (by omega) (by omega)]; simp
        rw [this]; rfl
      · by_cases c2 : m = x
        · subst c2
          rw [if_pos (by omega), if_neg (by omega), if_pos (by omega)]
          have : D m = xr (fun j => !decide (j = m) && E j) m := by
            show (_ ^^ _) = _
            rw [pp_xx]
            refine pp_xc (fun j hj => ?_)
            rw [pSw_x, pSw_z (by omega) (by omega), decide_eq_false (show ¬ j = m by omega)]
            show (decide (h y < h j) ^^ decide (h m < h j)) = (true && (decide (h m < h j) ^^ decide (h y < h j)))
            cases decide (h y < h j) <;> cases decide (h m < h j) <;> rfl
          rw [this]; simp
        · by_cases c3 : m < y
          · rw [if_neg (by omega), if_pos (by omega), if_neg (by omega), if_pos (by omega)]
            have : D m = E m := by
              show (_ ^^ _) = _
              rw [pp_xx, pp_x1 (x := x) (by omega) (fun j hj e => by rw [pSw_z (by omega) (by omega), pSw_z (by omega) (by omega)]; simp)]
              rw [pSw_z (by omega) (by omega), pSw_x]
              show (decide (h m < h y) ^^ decide (h m < h x)) = (decide (h x < h m) ^^ decide (h y < h m))
              have a1 := hne m (by omega) (by omega)
              have a2 := hne2 m (by omega) (by omega)
              have b1 : decide (h m < h y) = !decide (h y < h m) := by
                by_cases z : h y < h m
                · rw [decide_eq_true z, decide_eq_false (by omega)]; rfl
                · rw [decide_eq_false z, decide_eq_true (by omega)]; rfl
              have b2 : decide (h m < h x) = !decide (h x < h m) := by
                by_cases z : h x < h m
                · rw [decide_eq_true z, decide_eq_false (by omega)]; rfl
                · rw [decide_eq_false z, decide_eq_true (by omega)]; rfl
              rw [b1, b2]
              cases decide (h y < h m) <;> cases decide (h x < h m) <;> rfl
            rw [this, decide_eq_false (show ¬ m = x by omega)]; rfl
          · by_cases c4 : m = y
            · subst c4
              rw [if_neg (by omega), if_pos (by omega), if_neg (by omega), if_neg (by omega)]
              have : D m = !xr (fun j => !decide (j = x) && E j) m := by
                show (_ ^^ _) = _
                rw [pp_xx]
                have e1 : xr (fun k => decide (pSw h x m m < pSw h x m k) ^^ decide (h m < h k)) m = (xr (fun j => !decide (j = x) && E j) m ^^ xr (fun j => decide (j = x)) m) := by
                  rw [pp_xx]
                  refine pp_xc (fun j hj => ?_)
                  rw [pSw_y]
                  by_cases e : j = x
                  · subst e
                    rw [pSw_x, decide_eq_true rfl]
                    show (decide (h j < h m) ^^ decide (h m < h j)) = ((!true && E j) ^^ true)
                    by_cases z : h j < h m
                    · rw [decide_eq_true z, decide_eq_false (by omega)]; rfl
                    · rw [decide_eq_false z, decide_eq_true (by omega)]; rfl
                  · rw [pSw_z e (by omega), decide_eq_false e]
                    show (decide (h x < h j) ^^ decide (h m < h j)) = ((!false && (decide (h x < h j) ^^ decide (h m < h j))) ^^ false)
                    cases decide (h x < h j) <;> cases decide (h m < h j) <;> rfl
                rw [e1, pp_x1 (P := fun j => decide (j = x)) (x := x) hxy (fun k _ e => decide_eq_false e), decide_eq_true rfl]
                cases xr (fun j => !decide (j = x) && E j) m <;> rfl
              rw [this]; cases xr (fun j => !decide (j = x) && E j) m <;> rfl
            · rw [if_neg (by omega), if_neg (by omega), if_neg (by omega), if_neg (by omega)]
              have : D m = false := by
                show (_ ^^ _) = false
                rw [pp_xx]
                have e1 : xr (fun k => decide (pSw h x y m < pSw h x y k) ^^ decide (h m < h k)) m = (xr (fun j => decide (j = x) && (decide (h m < h y) ^^ decide (h m < h x))) m ^^ xr (fun j => decide (j = y) && (decide (h m < h y) ^^ decide (h m < h x))) m) := by
                  rw [pp_xx]
                  refine pp_xc (fun j hj => ?_)
                  rw [pSw_z (by omega) (by omega)]
                  by_cases e : j = x
                  · subst e
                    rw [pSw_x, decide_eq_true rfl, decide_eq_false (show ¬ j = y by omega)]
                    cases decide (h m < h y) <;> cases decide (h m < h j) <;> rfl
                  · by_cases e2 : j = y
                    · subst e2
                      rw [pSw_y, decide_eq_true rfl, decide_eq_false e]
                      cases decide (h m < h x) <;> cases decide (h m < h j) <;> rfl
                    · rw [pSw_z e e2, decide_eq_false e, decide_eq_false e2]; simp
                rw [e1, pp_x1 (x := x) (by omega) (fun k _ e => by rw [decide_eq_false e]; rfl), pp_x1 (x := y) (by omega) (fun k _ e => by rw [decide_eq_false e]; rfl), decide_eq_true rfl, decide_eq_true rfl]
                cases decide (h m < h y) <;> cases decide (h m < h x) <;> rfl
              rw [this]; rfl
  have hk := key n (Nat.le_refl n)
  rw [if_neg (by omega), if_neg (by omega)] at hk
  have e : (iv (pSw h x y) n ^^ iv h n) = true := by
    rw [← hk]; unfold iv; rw [pp_xx]
  revert e
  cases iv (pSw h x y) n <;> cases iv h n <;> decide
theorem iv_id {n : Nat} {h : Nat → Nat} (e : ∀ x, x < n → h x = x) : iv h n = false := pp_x0 (fun k hk => pp_x0 (fun j hj => by rw [e k hk, e j (by omega)]; exact decide_eq_false (by omega)))
theorem pp_ivc {n : Nat} {f g : Nat → Nat} (h : ∀ x, x < n → f x = g x) : iv f n = iv g n := pp_xc (fun k hk => pp_xc (fun j hj => by rw [h k hk, h j (by omega)]))
theorem iv_sw' {n : Nat} {h g : Nat → Nat} (hp : PP n h) {x y : Nat} (hx : x < n) (hy : y < n) (hxy : ¬ x = y) (hg : ∀ z, z < n → g z = pSw h x y z) : iv g n = !iv h n := by
  rw [pp_ivc hg]
  rcases Nat.lt_or_ge x y with e | e
  · exact iv_sw hp e hy
  · rw [pSw_c]; exact iv_sw hp (by omega) hx
def pH (f : Nat → Nat) (s : Nat → Bool) (k a : Nat) : Nat → Nat := fun x => if x = k then a else if s x = true then x else f x
def pZ (f : Nat → Nat) (s : Nat → Bool) : Nat → Nat := fun x => if s x = true then x else f x
theorem pH_k {f : Nat → Nat} {s : Nat → Bool} {k a : Nat} : pH f s k a k = a := if_pos rfl
theorem pH_s {f : Nat → Nat} {s : Nat → Bool} {k a x : Nat} (h : ¬ x = k) (h2 : s x = true) : pH f s k a x = x := by unfold pH; rw [if_neg h, if_pos h2]
theorem pH_f {f : Nat → Nat} {s : Nat → Bool} {k a x : Nat} (h : ¬ x = k) (h2 : ¬ s x = true) : pH f s k a x = f x := by unfold pH; rw [if_neg h, if_neg h2]
theorem pH_Z {f : Nat → Nat} {s : Nat → Bool} {k a x : Nat} (h : ¬ x = k) : pH f s k a x = pZ f s x := by unfold pH pZ; rw [if_neg h]
theorem pZ_s {f : Nat → Nat} {s : Nat → Bool} {x : Nat} (h : s x = true) : pZ f s x = x := if_pos h
theorem pZ_f {f : Nat → Nat} {s : Nat → Bool} {x : Nat} (h : ¬ s x = true) : pZ f s x = f x := if_neg h
/-- what a swap turns and the identity does not have is the parity of the cycles -/
theorem od_phi {n : Nat} (hn : n ≤ 9) (Φ : (Nat → Nat) → Bool) (h0 : ∀ h : Nat → Nat, (∀ x, x < n → h x = x) → Φ h = false) (hs : ∀ (h g : Nat → Nat) (x y : Nat), PP n h → x < n → y < n → ¬ x = y → (∀ z, z < n → g z = pSw h x y z) → Φ g = !Φ h) (hc : ∀ h g : Nat → Nat, (∀ x, x < n → h x = g x) → Φ h = Φ g) {f : Nat → Nat} (hf : PP n f) : Φ f = odN f n := by
  have walk : ∀ (m : Nat) (s : Nat → Bool) (k a c : Nat), k < n → a < n → s k = true → cn (fun x => !s x) n < m → PP n (pH f s k a) →
      (∀ x, s x = true → (wkN f m s a c).1 x = true) ∧ c ≤ (wkN f m s a c).2 ∧ PP n (pZ f (wkN f m s a c).1) ∧ Φ (pH f s k a) = (Φ (pZ f (wkN f m s a c).1) ^^ decide (((wkN f m s a c).2 - c) % 2 = 1)) := by
    intro m
    induction m with
    | zero => intro s k a c _ _ _ h; exact absurd h (Nat.not_lt_zero _)
    | succ m ih =>
      intro s k a c hk ha hsk hu hP
      by_cases hsa : s a = true
      · rw [show wkN f (m + 1) s a c = (s, c) by rw [wkN, if_pos hsa]]
        have hak : a = k := by
          by_cases e : a = k
          · exact e
          · refine hP.2 a k ha hk ?_
            rw [pH_k, pH_s e hsa]
        subst hak
        have e : ∀ x, x < n → pH f s a a x = pZ f s x := fun x _ => by
          by_cases e : x = a
          · subst e; rw [pH_k, pZ_s hsk]
          · exact pH_Z e
        refine ⟨fun x h => h, Nat.le_refl c, hP.cg (fun x hx => (e x hx).symm), ?_⟩
        rw [hc _ _ e, Nat.sub_self]; simp
      · rw [show wkN f (m + 1) s a c = wkN f m (va_up s a true) (f a) (c + 1) by rw [wkN, if_neg hsa]]
        have hak : ¬ a = k := fun e => hsa (e ▸ hsk)
        have e : ∀ z, z < n → pH f (va_up s a true) k (f a) z = pSw (pH f s k a) k a z := fun z _ => by
          by_cases h1 : z = k
          · subst h1; rw [pH_k, pSw_x, pH_f hak hsa]
          · by_cases h2 : z = a
            · subst h2; rw [pH_s h1 (va_up_self _ _ _), pSw_y, pH_k]
            · rw [pSw_z h1 h2, pH_Z h1, pH_Z h1]; unfold pZ; rw [pp_ne h2]
        have hP2 : PP n (pH f (va_up s a true) k (f a)) := (hP.sw hk ha).cg e
        have hu2 : cn (fun x => !va_up s a true x) n < m := by
          have e1 := cn_up_f (P := fun x => !s x) ha (by show (!s a) = true; cases hz : s a; rfl; exact absurd hz hsa)
          have e2 : cn (fun x => !va_up s a true x) n = cn (va_up (fun x => !s x) a false) n := cn_congr (fun x _ => by
            by_cases z : x = a
            · subst z; rw [va_up_self, va_up_self]; rfl
            · rw [pp_ne z, pp_ne z])
          omega
        obtain ⟨i1, i2, i3, i4⟩ := ih (va_up s a true) k (f a) (c + 1) hk (hf.1 a ha) (by rw [pp_ne (fun z => hak z.symm)]; exact hsk) hu2 hP2
        refine ⟨fun x hx => i1 x ?_, by omega, i3, ?_⟩
        · by_cases z : x = a
          · subst z; exact va_up_self _ _ _
          · rw [pp_ne z]; exact hx
        · have e3 := hs _ _ k a hP hk ha (fun z => hak z.symm) e
          have e4 : ((wkN f m (va_up s a true) (f a) (c + 1)).2 - c) = ((wkN f m (va_up s a true) (f a) (c + 1)).2 - (c + 1)) + 1 := by omega
          rw [i4] at e3
          rw [e4]
          revert e3
          generalize (wkN f m (va_up s a true) (f a) (c + 1)).2 - (c + 1) = q
          rcases (show q % 2 = 0 ∨ q % 2 = 1 by omega) with hq | hq
          · rw [decide_eq_false (show ¬ q % 2 = 1 by omega), decide_eq_true (show (q + 1) % 2 = 1 by omega)]
            generalize Φ (pH f s k a) = A
            generalize Φ (pZ f (wkN f m (va_up s a true) (f a) (c + 1)).1) = B
            cases A <;> cases B <;> decide
          · rw [decide_eq_true hq, decide_eq_false (show ¬ (q + 1) % 2 = 1 by omega)]
            generalize Φ (pH f s k a) = A
            generalize Φ (pZ f (wkN f m (va_up s a true) (f a) (c + 1)).1) = B
            cases A <;> cases B <;> decide
  have loop : ∀ k, k ≤ n → (∀ x, x < k → (odS f k).1 x = true) ∧ PP n (pZ f (odS f k).1) ∧ Φ f = (Φ (pZ f (odS f k).1) ^^ (odS f k).2) := by
    intro k
    induction k with
    | zero =>
      intro _
      have e : ∀ x, x < n → f x = pZ f (odS f 0).1 x := fun x _ => (pZ_f (show ¬ (odS f 0).1 x = true from Bool.false_ne_true)).symm
      refine ⟨fun x hx => absurd hx (Nat.not_lt_zero x), hf.cg (fun x hx => (e x hx).symm), ?_⟩
      rw [← hc _ _ e]; show _ = (_ ^^ false); simp
    | succ k ih =>
      intro hk
      obtain ⟨j1, j2, j3⟩ := ih (by omega)
      rw [show odS f (k + 1) = ((wkN f 10 (odS f k).1 k 0).1, (odS f k).2 ^^ (decide (0 < (wkN f 10 (odS f k).1 k 0).2) && decide ((wkN f 10 (odS f k).1 k 0).2 % 2 = 0))) from rfl]
      by_cases hsk : (odS f k).1 k = true
      · rw [show wkN f 10 (odS f k).1 k 0 = ((odS f k).1, 0) by rw [wkN, if_pos hsk]]
        refine ⟨fun x hx => ?_, j2, ?_⟩
        · by_cases z : x = k
          · rw [z]; exact hsk
          · exact j1 x (by omega)
        · rw [j3]; simp
      · rw [show wkN f 10 (odS f k).1 k 0 = wkN f 9 (va_up (odS f k).1 k true) (f k) 1 by rw [wkN, if_neg hsk]]
        have e1 : ∀ x, x < n → pH f (va_up (odS f k).1 k true) k (f k) x = pZ f (odS f k).1 x := fun x _ => by
          by_cases z : x = k
          · subst z; rw [pH_k, pZ_f hsk]
          · rw [pH_Z z]; unfold pZ; rw [pp_ne z]
        have hu : cn (fun x => !va_up (odS f k).1 k true x) n < 9 := by
          have h9 : cn (fun x => !va_up (odS f k).1 k true x) n < n := pp_cn_lt (show k < n by omega) (by rw [va_up_self]; rfl)
          omega
        obtain ⟨i1, i2, i3, i4⟩ := walk 9 (va_up (odS f k).1 k true) k (f k) 1 (by omega) (hf.1 k (by omega)) (va_up_self _ _ _) hu (j2.cg e1)
        refine ⟨fun x hx => i1 x ?_, i3, ?_⟩
        · by_cases z : x = k
          · subst z; exact va_up_self _ _ _
          · rw [pp_ne z]; exact j1 x (by omega)
        · rw [j3, ← hc _ _ e1, i4]
          have e5 : ∀ q : Nat, 1 ≤ q → decide ((q - 1) % 2 = 1) = (decide (0 < q) && decide (q % 2 = 0)) := fun q hq => by
            rw [decide_eq_true (show 0 < q by omega), Bool.true_and, decide_eq_decide]; omega
          rw [e5 _ i2]
          generalize Φ (pZ f (wkN f 9 (va_up (odS f k).1 k true) (f k) 1).1) = A
          generalize (odS f k).2 = B2
          generalize (decide (0 < (wkN f 9 (va_up (odS f k).1 k true) (f k) 1).2) && decide ((wkN f 9 (va_up (odS f k).1 k true) (f k) 1).2 % 2 = 0)) = C2
          cases A <;> cases B2 <;> cases C2 <;> rfl
  obtain ⟨l1, _, l3⟩ := loop n (Nat.le_refl n)
  rw [l3, h0 _ (fun x hx => pZ_s (l1 x hx))]
  unfold odN
  simp
theorem od_iv {n : Nat} (hn : n ≤ 9) {f : Nat → Nat} (hf : PP n f) : iv f n = odN f n := od_phi hn (fun h => iv h n) (fun _ h => iv_id h) (fun h g x y hp hx hy hxy hg => iv_sw' hp hx hy hxy hg) (fun h g e => pp_ivc e) hf
/-! ===== the homes of the letters ===== -/
theorem pp_ay {P : Nat → Bool} : ∀ {n : Nat}, ay P n = false → ∀ k, k < n → P k = false
  | 0, _, k, hk => absurd hk (Nat.not_lt_zero k)
  | n + 1, h, k, hk => by
    simp only [ay, Bool.or_eq_false_iff] at h
    by_cases e : k = n
    · rw [e]; exact h.2
    · exact pp_ay h.1 k (by omega)
theorem pp_fx {P : Nat → Bool} {n k : Nat} (hk : k < n) (h : P k = true) : fx P n < n ∧ P (fx P n) = true := by
  have h1 := fx_cn (P := P) (pp_cn_pos hk h)
  exact ⟨h1, fx_spec.2 h1⟩
theorem pp_fn {P : Nat → Bool} {n : Nat} (h : ∀ k, k < n → P k = false) : ¬ fx P n < n := fun h1 => by
  have h2 := fx_spec.2 h1
  rw [h _ h1] at h2; exact absurd h2 (by decide)
theorem pp_fc {P R : Nat → Bool} : ∀ {n : Nat}, (∀ k, k < n → P k = R k) → fx P n = fx R n
  | 0, _ => rfl
  | k + 1, h => by simp only [fx]; rw [pp_fc (fun j hj => h j (by omega)), h k (by omega)]
theorem pp_lx {P : Nat → Bool} {d q : Nat} : ∀ {n : Nat}, q < n → P q = true → (∀ k, k < n → P k = true → k = q) → lx P d n = q
  | n + 1, hq, h1, h2 => by
    simp only [lx]
    by_cases e : P n = true
    · rw [if_pos e]; exact h2 n (by omega) e
    · rw [if_neg e]
      have : ¬ q = n := fun z => e (z ▸ h1)
      exact pp_lx (by omega) h1 (fun k hk => h2 k (by omega))
section PAR
variable {n : Nat} {L K : Nat → Nat}
/-- what a board that can be judged has -/
def PB (n : Nat) (L K : Nat → Nat) : Prop := (∀ q, q < n → 97 ≤ L q ∧ L q ≤ 108) ∧ (∀ q, q < n → K q = 46 ∨ (97 ≤ K q ∧ K q ≤ 108)) ∧ (∀ p q, p < n → q < n → L p = L q → p = q) ∧ (∀ i j, i < n → j < n → K i = K j → i = j) ∧ ∀ j, j < n → ¬ K j = 46 → ∃ q, q < n ∧ L q = K j
theorem PB.of {any : Nat} (ha : any ≤ 1) (hL : ∀ q, q < n → 97 ≤ L q ∧ L q ≤ 108) (hK : ∀ q, q < n → K q = 46 ∨ (97 ≤ K q ∧ K q ≤ 108)) (h : pry L K n any = true) : PB n L K := by
  unfold pry at h
  simp only [Bool.and_eq_true, decide_eq_true_eq, Bool.not_eq_true'] at h
  obtain ⟨⟨h1, h2⟩, h3⟩ := h
  have hA : ∀ p q, p < n → q < n → L p = L q → p = q := by
    have h4 : ul L n ≤ cn (fun k => decide (fx (fun j => decide (L j = L k)) n = k)) n := by
      unfold ul
      refine pp_inj (f := fun v => fx (fun k => decide (L k = 97 + v)) n) (fun v hv hQ => ?_) (fun u v hu hv hQu hQv e => ?_)
      · have h5 := fx_cn (of_decide_eq_true hQ)
        have h6 : L (fx (fun k => decide (L k = 97 + v)) n) = 97 + v := of_decide_eq_true (fx_spec.2 h5)
        refine ⟨h5, decide_eq_true ?_⟩
        rw [h6]
      · have h5 := fx_cn (of_decide_eq_true hQu)
        have h6 : L (fx (fun k => decide (L k = 97 + u)) n) = 97 + u := of_decide_eq_true (fx_spec.2 h5)
        have h7 := fx_cn (of_decide_eq_true hQv)
        have h8 : L (fx (fun k => decide (L k = 97 + v)) n) = 97 + v := of_decide_eq_true (fx_spec.2 h7)
        have e : fx (fun k => decide (L k = 97 + u)) n = fx (fun k => decide (L k = 97 + v)) n := e
        rw [e, h8] at h6; omega
    have h5 : ∀ k, k < n → fx (fun j => decide (L j = L k)) n = k := fun k hk => by
      by_cases e : fx (fun j => decide (L j = L k)) n = k
      · exact e
      · have := pp_cn_lt (P := fun k => decide (fx (fun j => decide (L j = L k)) n = k)) hk (decide_eq_false e)
        omega
    intro p q hp hq e
    have a := h5 p hp
    have b := h5 q hq
    rw [e] at a; omega
  have h7 : ∀ c, tm L n c ≤ 1 := fun c => pp_le1 (fun u v hu hv a b => hA u v hu hv (by rw [of_decide_eq_true a, of_decide_eq_true b]))
  have h8 : ∀ v, v < 12 → tm K n (97 + v) ≤ tm L n (97 + v) := fun v hv => by
    have := of_decide_eq_false (pp_ay (show ay (fun v => decide (tm L n (97 + v) < tm K n (97 + v))) 12 = false from h3) v hv)
    omega
  refine ⟨hL, hK, hA, fun i j hi hj e => ?_, fun j hj e => ?_⟩
  · rcases hK i hi with e1 | e1
    · exact pp_one (Q := fun k => decide (K k = 46)) (show tm K n 46 ≤ 1 by omega) hi hj (decide_eq_true e1) (decide_eq_true (by rw [← e]; exact e1))
    · have a := h8 (K i - 97) (by omega)
      have b := h7 (97 + (K i - 97))
      have c : 97 + (K i - 97) = K i := by omega
      rw [c] at a b
      exact pp_one (Q := fun k => decide (K k = K i)) (show tm K n (K i) ≤ 1 by omega) hi hj (decide_eq_true rfl) (decide_eq_true e.symm)
  · rcases hK j hj with e1 | e1
    · exact absurd e1 e
    · have a := h8 (K j - 97) (by omega)
      have c : 97 + (K j - 97) = K j := by omega
      rw [c] at a
      have b : 0 < tm K n (K j) := pp_cn_pos hj (decide_eq_true rfl)
      obtain ⟨q, hq, z⟩ := pp_cn_ex (P := fun k => decide (L k = K j)) (show 0 < tm L n (K j) by omega)
      exact ⟨q, hq, of_decide_eq_true z⟩
theorem ho_a {p j : Nat} (hj : j < n) (e : K j = L p) : hoN n L K p < n ∧ K (hoN n L K p) = L p := by
  have h := pp_fx (P := fun j => decide (K j = L p)) hj (decide_eq_true e)
  unfold hoN; rw [if_pos h.1]; exact ⟨h.1, of_decide_eq_true h.2⟩
theorem ho_b {p : Nat} (h : ∀ j, j < n → ¬ K j = L p) : hoN n L K p = fx (fun j => decide (K j = 46)) n := by
  unfold hoN; rw [if_neg (pp_fn (fun k hk => decide_eq_false (h k hk)))]
/-- a letter for each place of K that wants one -/
theorem PB.f (hb : PB n L K) {j : Nat} (hj : j < n) (e : ¬ K j = 46) : fx (fun k => decide (L k = K j)) n < n ∧ L (fx (fun k => decide (L k = K j)) n) = K j := by
  obtain ⟨q, hq, z⟩ := hb.2.2.2.2 j hj e
  have h := pp_fx (P := fun k => decide (L k = K j)) hq (decide_eq_true z)
  exact ⟨h.1, of_decide_eq_true h.2⟩
theorem PB.lt (hb : PB n L K) {p : Nat} (hp : p < n) : hoN n L K p < n := by
  by_cases e : ∃ j, j < n ∧ K j = L p
  · obtain ⟨j, hj, z⟩ := e; exact (ho_a hj z).1
  · have e1 : ∀ j, j < n → ¬ K j = L p := fun j hj z => e ⟨j, hj, z⟩
    rw [ho_b e1]
    by_cases e2 : ∃ j, j < n ∧ K j = 46
    · obtain ⟨j, hj, z⟩ := e2; exact (pp_fx (P := fun j => decide (K j = 46)) hj (decide_eq_true z)).1
    · have e3 : ∀ j, j < n → ¬ K j = 46 := fun j hj z => e2 ⟨j, hj, z⟩
      have h1 : cn (fun _ => true) n ≤ cn (va_up (fun _ => true) p false) n := pp_inj (f := fun j => fx (fun k => decide (L k = K j)) n) (fun j hj _ => by
        have h := hb.f hj (e3 j hj)
        refine ⟨h.1, ?_⟩
        rw [pp_ne (fun z => e1 j hj (by rw [← h.2, z]))]) (fun i j hi hj _ _ e => by
        have h := hb.f hi (e3 i hi)
        have h' := hb.f hj (e3 j hj)
        have e : fx (fun k => decide (L k = K i)) n = fx (fun k => decide (L k = K j)) n := e
        exact hb.2.2.2.1 i j hi hj (by rw [← h.2, ← h'.2, e]))
      have h2 := cn_up_f (P := fun _ => true) hp rfl
      omega
theorem PB.hb (hb : PB n L K) {p : Nat} (hp : p < n) (h : ∀ j, j < n → ¬ K j = L p) : K (hoN n L K p) = 46 := by
  have h1 := hb.lt hp
  rw [ho_b h] at h1 ⊢
  exact of_decide_eq_true (fx_spec.2 h1)
theorem PB.pp (hb : PB n L K) : PP n (hoN n L K) := by
  refine ⟨fun x hx => hb.lt hx, fun p q hp hq e => ?_⟩
  by_cases e1 : ∃ j, j < n ∧ K j = L p
  · obtain ⟨j, hj, z⟩ := e1
    have a := (ho_a hj z).2
    by_cases e2 : ∃ j, j < n ∧ K j = L q
    · obtain ⟨j', hj', z'⟩ := e2
      have b := (ho_a hj' z').2
      exact hb.2.2.1 p q hp hq (by rw [← a, ← b, e])
    · have b := hb.hb hq (fun j hj z => e2 ⟨j, hj, z⟩)
      rw [e, b] at a
      have := hb.1 p hp; omega
  · have a := hb.hb hp (fun j hj z => e1 ⟨j, hj, z⟩)
    by_cases e2 : ∃ j, j < n ∧ K j = L q
    · obtain ⟨j', hj', z'⟩ := e2
      have b := (ho_a hj' z').2
      rw [← e, a] at b
      have := hb.1 q hq; omega
    · by_cases e3 : p = q
      · exact e3
      · have hr := hb.lt hp
        have h1 : cn (va_up (fun _ => true) (hoN n L K p) false) n ≤ cn (va_up (va_up (fun _ => true) p false) q false) n := pp_inj (f := fun j => fx (fun k => decide (L k = K j)) n) (fun j hj hQ => by
          have hne : ¬ K j = 46 := fun z => by
            have := hb.2.2.2.1 j (hoN n L K p) hj hr (by rw [z, a])
            rw [this, va_up_self] at hQ; exact absurd hQ (by decide)
          have h := hb.f hj hne
          refine ⟨h.1, ?_⟩
          rw [pp_ne (fun z => e2 ⟨j, hj, by rw [← h.2, z]⟩), pp_ne (fun z => e1 ⟨j, hj, by rw [← h.2, z]⟩)]) (fun i j hi hj hQi hQj e => by
          have hni : ¬ K i = 46 := fun z => by
            have := hb.2.2.2.1 i (hoN n L K p) hi hr (by rw [z, a])
            rw [this, va_up_self] at hQi; exact absurd hQi (by decide)
          have hnj : ¬ K j = 46 := fun z => by
            have := hb.2.2.2.1 j (hoN n L K p) hj hr (by rw [z, a])
            rw [this, va_up_self] at hQj; exact absurd hQj (by decide)
          have h := hb.f hi hni
          have h' := hb.f hj hnj
          have e : fx (fun k => decide (L k = K i)) n = fx (fun k => decide (L k = K j)) n := e
          exact hb.2.2.2.1 i j hi hj (by rw [← h.2, ← h'.2, e]))
        have h2 := cn_up_f (P := fun _ => true) hr rfl
        have h3 := cn_up_f (P := fun _ => true) hp rfl
        have h4 := cn_up_f (P := va_up (fun _ => true) p false) hq (by rw [pp_ne (fun z => e3 z.symm)])
        omega
theorem PB.mv (hb : PB n L K) {mv : Nat → Nat} {q : Nat} (hq : q < n) : mvF n L K mv (hoN n L K q) = q := by
  have hLq := hb.1 q hq
  have hv : vF n L K (hoN n L K q) = nI (L q - 97) := by
    unfold vF
    by_cases e : ∃ j, j < n ∧ K j = L q
    · obtain ⟨j, hj, z⟩ := e
      have a := (ho_a hj z).2
      rw [a, if_neg (by omega)]
      unfold gk; rw [if_neg (by omega)]
    · have e1 : ∀ j, j < n → ¬ K j = L q := fun j hj z => e ⟨j, hj, z⟩
      rw [if_pos (hb.hb hq e1)]
      have c97 : 97 + (L q - 97) = L q := by omega
      have t1 : tm L n (97 + (L q - 97)) = 1 := by
        rw [c97]
        have a : tm L n (L q) ≤ 1 := pp_le1 (fun u v hu hv a b => hb.2.2.1 u v hu hv (by rw [of_decide_eq_true a, of_decide_eq_true b]))
        have b : 0 < tm L n (L q) := pp_cn_pos hq (decide_eq_true rfl)
        omega
      have t0 : tm K n (97 + (L q - 97)) = 0 := by
        rw [c97]
        rcases Nat.eq_zero_or_pos (tm K n (L q)) with z | z
        · exact z
        · obtain ⟨j, hj, z⟩ := pp_cn_ex (P := fun k => decide (K k = L q)) z
          exact absurd (of_decide_eq_true z) (e1 j hj)
      have hf := pp_fx (P := fun c => decide (tm L n (97 + c) = 1) && decide (tm K n (97 + c) = 0)) (n := 12) (k := L q - 97) (by omega) (by rw [decide_eq_true t1, decide_eq_true t0]; rfl)
      generalize fx (fun c => decide (tm L n (97 + c) = 1) && decide (tm K n (97 + c) = 0)) 12 = c1 at hf ⊢
      obtain ⟨hc, hs⟩ := hf
      simp only [Bool.and_eq_true, decide_eq_true_eq] at hs
      obtain ⟨q1, hq1, z1⟩ := pp_cn_ex (P := fun k => decide (L k = 97 + c1)) (show 0 < tm L n (97 + c1) by omega)
      have z1 : L q1 = 97 + c1 := of_decide_eq_true z1
      have n1 : ∀ j, j < n → ¬ K j = L q1 := fun j hj z => by
        have : 0 < tm K n (97 + c1) := pp_cn_pos hj (decide_eq_true (z.trans z1))
        omega
      have e2 : q1 = q := hb.pp.2 q1 q hq1 hq (by rw [ho_b n1, ho_b e1])
      unfold oN; rw [if_pos hc, show L q - 97 = c1 by rw [← e2, z1]; omega]
  unfold mvF
  rw [hv]
  refine pp_lx hq (decide_eq_true rfl) (fun k hk z => ?_)
  have z := (nI_eq (by have := hb.1 k hk; omega) (by omega)).mp (of_decide_eq_true z)
  exact hb.2.2.1 k q hk hq (by have := hb.1 k hk; omega)
end PAR
/-- the inverse of a permutation -/
def pInv (n : Nat) (h : Nat → Nat) : Nat → Nat := fun z => fx (fun x => decide (h x = z)) n
theorem pInv_at {n : Nat} {h : Nat → Nat} (hp : PP n h) {x : Nat} (hx : x < n) : pInv n h (h x) = x := by
  have a := pp_fx (P := fun y => decide (h y = h x)) hx (decide_eq_true rfl)
  exact hp.2 _ x a.1 hx (of_decide_eq_true a.2)
theorem pInv_pp {n : Nat} {h : Nat → Nat} (hp : PP n h) : PP n (pInv n h) := by
  refine ⟨fun z hz => ?_, fun u v hu hv e => ?_⟩
  · obtain ⟨x, hx, rfl⟩ := hp.sur hz
    rw [pInv_at hp hx]; exact hx
  · obtain ⟨x, hx, rfl⟩ := hp.sur hu
    obtain ⟨y, hy, rfl⟩ := hp.sur hv
    rw [pInv_at hp hx, pInv_at hp hy] at e
    rw [e]
theorem od_ivInv {n : Nat} (hn : n ≤ 9) {f : Nat → Nat} (hf : PP n f) : iv (pInv n f) n = odN f n := by
  refine od_phi hn (fun h => iv (pInv n h) n) (fun h e => ?_) (fun h g x y hp hx hy hxy hg => ?_) (fun h g e => ?_) hf
  · have hp : PP n h := ⟨fun x hx => by rw [e x hx]; exact hx, fun x y hx hy z => by rw [e x hx, e y hy] at z; exact z⟩
    refine iv_id (fun z hz => ?_)
    have := pInv_at hp hz
    rw [e z hz] at this; exact this
  · have hpg : PP n g := (hp.sw hx hy).cg hg
    refine iv_sw' (pInv_pp hp) (hp.1 x hx) (hp.1 y hy) (fun z => hxy (hp.2 x y hx hy z)) (fun z hz => ?_)
    obtain ⟨w, hw, rfl⟩ := hp.sur hz
    by_cases h1 : w = x
    · subst h1
      rw [pSw_x, pInv_at hp hy, ← pSw_y (h := h) (x := w) (y := y), ← hg y hy, pInv_at hpg hy]
    · by_cases h2 : w = y
      · subst h2
        rw [pSw_y, pInv_at hp hx, ← pSw_x (h := h) (x := x) (y := w), ← hg x hx, pInv_at hpg hx]
      · rw [pSw_z (fun z => h1 (hp.2 w x hw hx z)) (fun z => h2 (hp.2 w y hw hy z)), pInv_at hp hw]
        have := pInv_at hpg hw
        rw [hg w hw, pSw_z h1 h2] at this; exact this
  · refine pp_ivc (fun z _ => ?_)
    exact pp_fc (fun x hx => by rw [e x hx])
/-! ===== parity: what the walks take from it ===== -/
theorem ho_lt {n : Nat} {L K : Nat → Nat} (hn : n ≤ 9) (hL : ∀ q, q < n → 97 ≤ L q ∧ L q ≤ 108) (hK : ∀ q, q < n → K q = 46 ∨ (97 ≤ K q ∧ K q ≤ 108)) (h : pry L K n 1 = true) : ∀ q, q < n → hoN n L K q < n := fun q hq => (PB.of (Nat.le_refl 1) hL hK h).lt hq
theorem mvF_lt {n : Nat} {L K mv : Nat → Nat} (hn : n ≤ 9) (hL : ∀ q, q < n → 97 ≤ L q ∧ L q ≤ 108) (hK : ∀ q, q < n → K q = 46 ∨ (97 ≤ K q ∧ K q ≤ 108)) (h : pry L K n 1 = true) : ∀ r, r < n → mvF n L K mv r < n := fun r hr => by
  have hb := PB.of (Nat.le_refl 1) hL hK h
  obtain ⟨q, hq, rfl⟩ := hb.pp.sur hr
  rw [hb.mv hq]; exact hq
theorem sw_odd {n : Nat} {L K mv : Nat → Nat} (hn : n ≤ 9) (hL : ∀ q, q < n → 97 ≤ L q ∧ L q ≤ 108) (hK : ∀ q, q < n → K q = 46 ∨ (97 ≤ K q ∧ K q ≤ 108)) (h : pry L K n 1 = true) : iv (mvF n L K mv) n = odN (hoN n L K) n := by
  have hb := PB.of (Nat.le_refl 1) hL hK h
  rw [← od_ivInv hn hb.pp]
  refine pp_ivc (fun z hz => ?_)
  obtain ⟨q, hq, rfl⟩ := hb.pp.sur hz
  rw [hb.mv hq, pInv_at hb.pp hq]
theorem pry_01 {L K : Nat → Nat} {n : Nat} (h : pry L K n 0 = true) : pry L K n 1 = true := by
  simp only [pry, Bool.and_eq_true, decide_eq_true_eq] at h ⊢
  exact ⟨⟨h.1.1, by omega⟩, h.2⟩
theorem dm9 {nr nc : Nat} (hd : 2 ≤ nr ∧ nr ≤ 3 ∧ 2 ≤ nc ∧ nc ≤ 3) : nr * nc = 9 ↔ nr = 3 ∧ nc = 3 := by
  obtain ⟨a, b, c, d⟩ := hd
  rcases (show nr = 2 ∨ nr = 3 by omega) with rfl | rfl <;> rcases (show nc = 2 ∨ nc = 3 by omega) with rfl | rfl <;> decide
theorem nI_bI (n : Nat) (b : Bool) : nI n + bI b = nI (n + (if b = true then 1 else 0)) := by
  cases b
  · show nI n + 0 = nI (n + 0); rw [Int32.add_zero]; rfl
  · show nI n + 1 = nI (n + 1); rw [nI_succ]
theorem cn_not (P : Nat → Bool) : ∀ n, cn P n + cn (fun k => !P k) n = n
  | 0 => rfl
  | n + 1 => by
    have := cn_not P n
    simp only [cn]
    by_cases h : P n = true
    · simp only [h]; simp; omega
    · have h2 : P n = false := by simpa using h
      simp only [h2]; simp; omega
theorem vw_sum {L : Nat → Nat} : ∀ {n : Nat}, (∀ q, q < n → 97 ≤ L q ∧ L q ≤ 108) → tm L n 97 + tm L n 101 + tm L n 105 = cn (fun k => vw (L k)) n
  | 0, _ => rfl
  | n + 1, h => by
    have ih := vw_sum (n := n) (fun q hq => h q (by omega))
    have h1 := h n (by omega)
    have e : tm L (n + 1) 97 + tm L (n + 1) 101 + tm L (n + 1) 105 = (tm L n 97 + (if L n = 97 then 1 else 0)) + (tm L n 101 + (if L n = 101 then 1 else 0)) + (tm L n 105 + (if L n = 105 then 1 else 0)) := by
      unfold tm; simp only [cn, decide_eq_true_eq]
    rw [e]
    show _ = cn (fun k => vw (L k)) n + (if vw (L n) = true then 1 else 0)
    rw [← ih]
    rcases (show L n = 97 ∨ L n = 101 ∨ L n = 105 ∨ (L n ≠ 97 ∧ L n ≠ 101 ∧ L n ≠ 105) by omega) with e | e | e | e
    · rw [e, if_pos rfl, if_neg (by decide), if_neg (by decide), if_pos (by decide)]; omega
    · rw [e, if_neg (by decide), if_pos rfl, if_neg (by decide), if_pos (by decide)]; omega
    · rw [e, if_neg (by decide), if_neg (by decide), if_pos rfl, if_pos (by decide)]; omega
    · rw [if_neg e.1, if_neg e.2.1, if_neg e.2.2, if_neg (by unfold vw; rw [decide_eq_true_eq]; omega)]; omega
def boV (nr nc : Nat) (L K : Nat → Nat) (B : Nat → Bool) (w : Int32) : Int32 := if w = nI 0 then nI nr else if w = nI 1 then nI nc else if w = nI 2 then nI (2 * (nr + nc)) else if w = nI 3 then nI (2 * cn (fun k => !B k) (nr + nc)) else if w = nI 4 then nI (ul L (nr * nc)) else if w = nI 5 then nI (cn (fun k => vw (L k)) (nr * nc)) else if w = nI 6 then nI (tm K (nr * nc) 46) else nI 0
def bo1 (w : Int32) : Int32 := if w = nI 0 ∨ w = nI 1 ∨ w = nI 2 ∨ w = nI 3 ∨ w = nI 4 ∨ w = nI 5 ∨ w = nI 6 then nI 0 else nI 1
/-- the best one's homes, or -1 -/
def mstN (nr nc : Nat) (B : Nat → Bool) (L K : Nat → Nat) (t : Nat) : Int32 := if bsN nr nc B L K t < 2 * (nr + nc) then nI (hm nr nc (tn nr nc (bsN nr nc B L K t) L) K) else -1
section BS
variable {nr nc : Nat} {B : Nat → Bool} {L K : Nat → Nat} {t : Nat}
theorem hm_lt9 (hd : 2 ≤ nr ∧ nr ≤ 3 ∧ 2 ≤ nc ∧ nc ≤ 3) (L K : Nat → Nat) : hm nr nc L K < 10 := by have := hm_le nr nc L K; have := dm_mul hd; omega
theorem bs_up (hd : 2 ≤ nr ∧ nr ≤ 3 ∧ 2 ≤ nc ∧ nc ≤ 3) (hB : B (t / 2) = false) (h : ¬ nI (hm nr nc (tn nr nc t L) K) ≤ mstN nr nc B L K t) : bsN nr nc B L K (t + 1) = t := by
  rw [bsN, if_neg (by rw [hB]; decide)]
  by_cases ho : bsN nr nc B L K t < 2 * (nr + nc)
  · rw [if_pos ho]
    rw [mstN, if_pos ho] at h
    have h1 := hm_lt9 hd (tn nr nc t L) K
    have h2 := hm_lt9 hd (tn nr nc (bsN nr nc B L K t) L) K
    rw [if_pos (Nat.lt_of_not_le (fun z => h ((nI_leI (by omega) (by omega)).mpr z)))]
  · rw [if_neg ho]
theorem bs_no (hd : 2 ≤ nr ∧ nr ≤ 3 ∧ 2 ≤ nc ∧ nc ≤ 3) (h : nI (hm nr nc (tn nr nc t L) K) ≤ mstN nr nc B L K t) : bsN nr nc B L K (t + 1) = bsN nr nc B L K t := by
  rw [bsN]
  have h1 := hm_lt9 hd (tn nr nc t L) K
  by_cases hB : B (t / 2) = true
  · rw [if_pos hB]
  · rw [if_neg hB]
    by_cases ho : bsN nr nc B L K t < 2 * (nr + nc)
    · rw [if_pos ho]
      rw [mstN, if_pos ho] at h
      have h2 := hm_lt9 hd (tn nr nc (bsN nr nc B L K t) L) K
      rw [if_neg (Nat.not_lt.mpr ((nI_leI (by omega) (by omega)).mp h))]
    · rw [mstN, if_neg ho] at h
      rw [Int32.le_iff_toInt_le, nI_toInt (by omega)] at h
      have h2 : (-1 : Int32).toInt = -1 := by decide
      omega
theorem bs_bar (hB : B (t / 2) = true) : bsN nr nc B L K (t + 1) = bsN nr nc B L K t := by rw [bsN, if_pos hB]
theorem mst_ge (hd : 2 ≤ nr ∧ nr ≤ 3 ∧ 2 ≤ nc ∧ nc ≤ 3) : (-1 : Int32) ≤ mstN nr nc B L K t := by
  unfold mstN; split
  · rw [Int32.le_iff_toInt_le, nI_toInt (by have := hm_lt9 hd (tn nr nc (bsN nr nc B L K t) L) K; omega)]
    have h2 : (-1 : Int32).toInt = -1 := by decide
    omega
  · exact Int32.le_refl _
theorem mst_t (hd : 2 ≤ nr ∧ nr ≤ 3 ∧ 2 ≤ nc ∧ nc ≤ 3) (ht : t < 2 * (nr + nc)) (h : bsN nr nc B L K (t + 1) = t) : mstN nr nc B L K (t + 1) = nI (hm nr nc (tn nr nc t L) K) := by
  unfold mstN; rw [h, if_pos ht]
theorem mst_s (h : bsN nr nc B L K (t + 1) = bsN nr nc B L K t) : mstN nr nc B L K (t + 1) = mstN nr nc B L K t := by
  unfold mstN; rw [h]
end BS
theorem wh_mod {nr nc p t k : Nat} : whN nr nc p t k = whN nr nc p t (k % szOf nr nc (t / 2)) := by
  unfold whN
  by_cases h : onL nr nc p (t / 2) = true
  · rw [if_pos h, if_pos h]
    congr 1
    by_cases h2 : t % 2 = 0
    · rw [if_pos h2, if_pos h2, Nat.add_mod_mod]
    · rw [if_neg h2, if_neg h2]
      conv => lhs; rw [Nat.add_mod, Nat.mul_mod]
      conv => rhs; rw [Nat.add_mod, Nat.mul_mod, Nat.mod_mod]
  · rw [if_neg h, if_neg h]
theorem wh_f3 {nr nc t p : Nat} (hd : 2 ≤ nr ∧ nr ≤ 3 ∧ 2 ≤ nc ∧ nc ≤ 3) (ht : t < 2 * (nr + nc)) (hp : p < nr * nc) : whN nr nc p t 0 = p ∧ whN nr nc p t 0 < nr * nc ∧ whN nr nc p t 1 < nr * nc ∧ whN nr nc p t 2 < nr * nc ∧ gs nr nc (whN nr nc p t 0) t = whN nr nc p t 1 ∧ gs nr nc (whN nr nc p t 1) t = whN nr nc p t 2 ∧ gs nr nc (whN nr nc p t 2) t = whN nr nc p t 3 := of_decide_eq_true (fin4 (P := fun nr nc t p => decide (whN nr nc p t 0 = p ∧ whN nr nc p t 0 < nr * nc ∧ whN nr nc p t 1 < nr * nc ∧ whN nr nc p t 2 < nr * nc ∧ gs nr nc (whN nr nc p t 0) t = whN nr nc p t 1 ∧ gs nr nc (whN nr nc p t 1) t = whN nr nc p t 2 ∧ gs nr nc (whN nr nc p t 2) t = whN nr nc p t 3)) (by decide +kernel) hd ht hp)
theorem wh_it {nr nc t p k : Nat} (hd : 2 ≤ nr ∧ nr ≤ 3 ∧ 2 ≤ nc ∧ nc ≤ 3) (ht : t < 2 * (nr + nc)) (hp : p < nr * nc) : whN nr nc p t k < nr * nc ∧ gs nr nc (whN nr nc p t k) t = whN nr nc p t (k + 1) := by
  have hz := szOf_lt (line := t / 2) hd
  have h3 := wh_f3 hd ht hp
  have hk : k % szOf nr nc (t / 2) < szOf nr nc (t / 2) := Nat.mod_lt _ (by omega)
  have e1 : whN nr nc p t (k + 1) = whN nr nc p t (k % szOf nr nc (t / 2) + 1) := by
    rw [wh_mod, wh_mod (k := k % szOf nr nc (t / 2) + 1), Nat.mod_add_mod]
  rw [e1, wh_mod]
  rcases (show k % szOf nr nc (t / 2) = 0 ∨ k % szOf nr nc (t / 2) = 1 ∨ k % szOf nr nc (t / 2) = 2 by omega) with e | e | e <;> rw [e]
  · exact ⟨h3.2.1, h3.2.2.2.2.1⟩
  · exact ⟨h3.2.2.1, h3.2.2.2.2.2.1⟩
  · exact ⟨h3.2.2.2.1, h3.2.2.2.2.2.2⟩
/-- lines ahead of a line by their vowels -/
def bfN (nr nc : Nat) (L : Nat → Nat) (l : Nat) : Nat := cn (fun o => decide (vwsN nr nc L l < vwsN nr nc L o ∨ (vwsN nr nc L o = vwsN nr nc L l ∧ o < l))) (nr + nc)
def rkN (nr nc : Nat) (L : Nat → Nat) (pa : Int32) : Nat := fx (fun l => decide (nI (bfN nr nc L l) = pa)) (nr + nc)
theorem vws_le (nr nc : Nat) (L : Nat → Nat) (l : Nat) : vwsN nr nc L l ≤ szOf nr nc l := cn_le _ _
theorem rdN_comm (x y n : Nat) : rdN x y n = rdN y x n := by
  unfold rdN
  by_cases h : y ≤ x
  · by_cases h2 : x ≤ y
    · have : x = y := by omega
      subst this; rfl
    · rw [if_pos h, if_neg h2]
  · rw [if_neg h, if_pos (by omega)]
theorem farN_comm (nr nc p q : Nat) : farN nr nc p q = farN nr nc q p := by unfold farN; rw [rdN_comm, rdN_comm (p % nc)]
theorem ft_lt {nr nc : Nat} {B : Nat → Bool} {L K : Nat → Nat} (h : 0 < nr + nc) (h1 : 1 ≤ awZ nr nc L K B) (h4 : awZ nr nc L K B < 4) : ftN nr nc B L K (awZ nr nc L K B - 1) < 2 * (nr + nc) := by
  have key : ∀ d, rch nr nc B K (d + 1) L = true → ftN nr nc B L K d < 2 * (nr + nc) := by
    intro d hr
    unfold ftN
    rw [rch, ay_iff] at hr
    obtain ⟨k, hk, hp⟩ := hr
    have hs := fx_spec (P := fun t => !B (t / 2) && rch nr nc B K d (tn nr nc t L)) (n := 2 * (nr + nc))
    rcases Nat.lt_or_ge (fx (fun t => !B (t / 2) && rch nr nc B K d (tn nr nc t L)) (2 * (nr + nc))) (2 * (nr + nc)) with g | g
    · exact g
    · have := hs.1 k (by omega)
      simp only [hp] at this
      exact absurd this (by decide)
  refine key _ ?_
  have e : awZ nr nc L K B - 1 + 1 = awZ nr nc L K B := by omega
  rw [e]
  generalize hz : awZ nr nc L K B = z at h1 h4
  unfold awZ awN at hz
  by_cases g0 : rch nr nc B K 0 L = true
  · rw [if_pos g0] at hz; omega
  · rw [if_neg g0] at hz
    by_cases g1 : rch nr nc B K 1 L = true
    · rw [if_pos g1] at hz; rw [← hz]; exact g1
    · rw [if_neg g1] at hz
      by_cases g2 : rch nr nc B K 2 L = true
      · rw [if_pos g2] at hz; rw [← hz]; exact g2
      · rw [if_neg g2] at hz
        by_cases g3 : rch nr nc B K 3 L = true
        · rw [if_pos g3] at hz; rw [← hz]; exact g3
        · rw [if_neg g3] at hz; omega
set_option maxHeartbeats 4000000 in
set_option maxRecDepth 100000 in
theorem m_X5_isOutOfReach (l : Launch) (G : GG) (mh : Nat) (md : Nat → Nat) (nr : Nat) (nc : Nat) (pL : Nat → Nat) (pG : Nat → Nat) (pB : Nat → Bool) (pk : Nat → Int32) (bf : Nat → Int32) (hi : Nat → Int32) (sv : Nat → Int32) (ch : Nat) (hs : Bool) (inp : Nat → Nat) (ty : Nat) (er : Int32) (wy : Int32) (wd : Int32) (rf : Bool) (lt : Nat → Nat) (ln : Nat) (th : Int32) (tr : Nat → Nat) (mv : Nat → Nat) (fo : Int32) (sp : Nat) (wr : Bool) (td : Nat → Int32) (hd : 2 ≤ nr ∧ nr ≤ 3 ∧ 2 ≤ nc ∧ nc ≤ 3) (hLR : ∀ q, q < nr * nc → 97 ≤ pL q ∧ pL q ≤ 108) (hKR : ∀ q, q < nr * nc → pG q = 46 ∨ (97 ≤ pG q ∧ pG q ≤ 108)) : MM l G yX5_isOutOfReach cX5_isOutOfReach 2 (some .boolean) ⟨3, 0, 0, 67⟩ [.ref mh] (MW G mh md nr nc pL pG pB pk bf hi sv ch hs inp ty er wy wd rf lt ln th tr mv fo sp wr td) (Qi_ G (fun (r : Int32) (u : (Nat → Nat)) => r = bI (otN nr nc pL pG)) (fun (u : (Nat → Nat)) => (MW G mh md nr nc pL pG pB pk bf hi sv ch hs inp ty er wy wd rf lt ln th tr u fo sp wr td))) := by
  refine MM.of (by decide) (Nat.le_of_ble_eq_true rfl) ?_
  intro p e s m args below meth cd A C hini hA hK hZ hP hD ls hl
  generalize hQ : MQ below ((Qi_ G (fun (r : Int32) (u : (Nat → Nat)) => r = bI (otN nr nc pL pG)) (fun (u : (Nat → Nat)) => (MW G mh md nr nc pL pG pB pk bf hi sv ch hs inp ty er wy wd rf lt ln th tr u fo sp wr td))) A) args s (⟨3, 0, 0, 67⟩ : Room).cells (⟨3, 0, 0, 67⟩ : Room).slots A = Q
  obtain ⟨hx, hb, hr, hts, hown, hlk, hml⟩ := C
  have hown : s.vm.findClass RX5 = some m.cls := hown
  have hS : va_S A s.heap s.heap [] := va_S.rf
  have hl : lv_has ls 2 [(0, .ref mh)] := hl
  have hmu := dm_mul hd
  refine lv_aload_n hx hb dX5_isOutOfReach_0 rfl (lv_at hl 0 rfl) ?_
  refine callVi (As := []) (rest := []) (wc := (MW G mh md nr nc pL pG pB pk bf hi sv ch hs inp ty er wy wd rf lt ln th tr mv fo sp wr td)) (wr := ([] : va_W)) ⟨hx, hb, hml, hown, hts⟩ (m_X5_lacksLetters l G mh md nr nc pL pG pB pk bf hi sv ch hs inp ty er wy wd rf lt ln th tr mv fo sp wr td (by first | assumption | omega) (by first | assumption | omega) (by first | assumption | omega)) (cwV 0 hts (lw_V q1967 q1969 qs65 q105 q1970) rfl rfl rfl (by decide +kernel) ⟨Nat.le_of_ble_eq_true rfl, Nat.le_of_ble_eq_true rfl⟩) hK hZ hA hP hD hS [0, 1, 2, 3, 4, 5, 6, 7, 8, 9] [] rfl rfl (by decide) (by decide) (by decide) 0 4 rfl rfl rfl hl.1 (Nat.le_of_ble_eq_true rfl) ⟨Nat.le_of_ble_eq_true rfl, Nat.le_of_ble_eq_true rfl⟩ rfl dX5_isOutOfReach_1 (fun r9 u9 H locs hw9 hP hD hS => ?_)
  subst hw9
  have hP : va_P G.1 CL (MW G mh md nr nc pL pG pB pk bf hi sv ch hs inp ty er wy wd rf lt ln th tr mv fo sp wr td) _ := hP
  have hD : va_D A (MW G mh md nr nc pL pG pB pk bf hi sv ch hs inp ty er wy wd rf lt ln th tr mv fo sp wr td) := hD
  refine b_if_eq (tgt := 9) hx hb dX5_isOutOfReach_4 (by decide) (fun c4 => ?_) (fun c4 => ?_)
  · skip
    refine lv_aload_n hx hb dX5_isOutOfReach_9 rfl (lv_at hl 0 rfl) ?_
    refine callVi (As := []) (rest := []) (wc := (MW G mh md nr nc pL pG pB pk bf hi sv ch hs inp ty er wy wd rf lt ln th tr mv fo sp wr td)) (wr := ([] : va_W)) ⟨hx, hb, hml, hown, hts⟩ (m_X5_places l G mh md nr nc pL pG pB pk bf hi sv ch hs inp ty er wy wd rf lt ln th tr mv fo sp wr td ) (cwV 0 hts (lw_V q1817 q1819 qs38 q105 q1820) rfl rfl rfl (by decide +kernel) ⟨Nat.le_of_ble_eq_true rfl, Nat.le_of_ble_eq_true rfl⟩) hK hZ hA hP hD hS [0, 1, 2, 3, 4, 5, 6, 7, 8, 9] [] rfl rfl (by decide) (by decide) (by decide) 0 4 rfl rfl rfl hl.1 (Nat.le_of_ble_eq_true rfl) ⟨Nat.le_of_ble_eq_true rfl, Nat.le_of_ble_eq_true rfl⟩ rfl dX5_isOutOfReach_10 (fun r9 u9 H locs hw9 hP hD hS => ?_)
    subst hw9
    have hP : va_P G.1 CL (MW G mh md nr nc pL pG pB pk bf hi sv ch hs inp ty er wy wd rf lt ln th tr mv fo sp wr td) _ := hP
    have hD : va_D A (MW G mh md nr nc pL pG pB pk bf hi sv ch hs inp ty er wy wd rf lt ln th tr mv fo sp wr td) := hD
    refine lv_bipush (v := nI 9) hx hb dX5_isOutOfReach_13 (by decide) ?_
    refine n_cmp_ne (tgt := 42) hx hb dX5_isOutOfReach_15 (by decide) (by omega) (by omega) (fun c15 => ?_) (fun c15 => ?_)
    · skip
      refine lv_iconst (v := nI 0) hx hb dX5_isOutOfReach_42 (by decide) ?_
      refine lv_istore_n (lv' := [(1, .int (nI 0)), (0, .ref mh)]) hx hb dX5_isOutOfReach_43 rfl hl (by decide) rfl (fun ls hl => ?_)
      refine lv_iload_n hx hb dX5_isOutOfReach_44 rfl (lv_at hl 0 rfl) ?_
      refine n_if_eq (tgt := 59) hx hb dX5_isOutOfReach_45 (by decide) (by decide) (fun c45 => ?_) (fun c45 => ?_)
      rotate_left
      · exact absurd c45 (by decide)
      refine lv_iconst (v := nI 0) hx hb dX5_isOutOfReach_59 (by decide) ?_
      subst hQ
      exact ret_i hx hb hr hlk mv (bI_0 (by first | (simp only [otN, c4, hpy, ← hod, c52, Bool.and_false, Bool.or_false]; done) | (simp only [otN, c4, Bool.false_or]; have hz9 : ¬ (nr = 3 ∧ nc = 3) := fun z => c15 ((dm9 hd).mpr z); by_cases h3 : nr = 3; (rw [decide_eq_false (show ¬ nc = 3 from fun z => hz9 ⟨h3, z⟩)]; simp); (rw [decide_eq_false h3]; simp)) | (simp only [otN, c4, Bool.false_or]; rw [show pry pL pG (nr * nc) 1 = false from by simp only [pry, decide_eq_false (show ¬ ul pL (nr * nc) = nr * nc by omega)]; rfl]; simp) | (simp only [otN, c4, Bool.false_or]; rw [show pry pL pG (nr * nc) 1 = false from by simp only [pry, decide_eq_false (show ¬ tm pG (nr * nc) 46 ≤ 1 by omega), Bool.and_false, Bool.false_and]]; simp))) hP hD hS rfl dX5_isOutOfReach_60
    · skip
      refine lv_aload_n hx hb dX5_isOutOfReach_18 rfl (lv_at hl 0 rfl) ?_
      refine callVi (As := []) (rest := []) (wc := (MW G mh md nr nc pL pG pB pk bf hi sv ch hs inp ty er wy wd rf lt ln th tr mv fo sp wr td)) (wr := ([] : va_W)) ⟨hx, hb, hml, hown, hts⟩ (m_X5_unlike l G mh md nr nc pL pG pB pk bf hi sv ch hs inp ty er wy wd rf lt ln th tr mv fo sp wr td (by first | assumption | omega) (by first | assumption | omega)) (cwV 0 hts (lw_V q1975 q1977 qs67 q105 q1978) rfl rfl rfl (by decide +kernel) ⟨Nat.le_of_ble_eq_true rfl, Nat.le_of_ble_eq_true rfl⟩) hK hZ hA hP hD hS [0, 1, 2, 3, 4, 5, 6, 7, 8, 9] [] rfl rfl (by decide) (by decide) (by decide) 0 4 rfl rfl rfl hl.1 (Nat.le_of_ble_eq_true rfl) ⟨Nat.le_of_ble_eq_true rfl, Nat.le_of_ble_eq_true rfl⟩ rfl dX5_isOutOfReach_19 (fun r9 u9 H locs hw9 hP hD hS => ?_)
      subst hw9
      have hP : va_P G.1 CL (MW G mh md nr nc pL pG pB pk bf hi sv ch hs inp ty er wy wd rf lt ln th tr mv fo sp wr td) _ := hP
      have hD : va_D A (MW G mh md nr nc pL pG pB pk bf hi sv ch hs inp ty er wy wd rf lt ln th tr mv fo sp wr td) := hD
      refine lv_bipush (v := nI 9) hx hb dX5_isOutOfReach_22 (by decide) ?_
      refine n_cmp_ne (tgt := 42) hx hb dX5_isOutOfReach_24 (by decide) (by have := cn_le (fun v => decide (0 < tm pL (nr * nc) (97 + v))) 12; have h9 : ul pL (nr * nc) ≤ 12 := this; omega) (by decide) (fun c24 => ?_) (fun c24 => ?_)
      · skip
        refine lv_iconst (v := nI 0) hx hb dX5_isOutOfReach_42 (by decide) ?_
        refine lv_istore_n (lv' := [(1, .int (nI 0)), (0, .ref mh)]) hx hb dX5_isOutOfReach_43 rfl hl (by decide) rfl (fun ls hl => ?_)
        refine lv_iload_n hx hb dX5_isOutOfReach_44 rfl (lv_at hl 0 rfl) ?_
        refine n_if_eq (tgt := 59) hx hb dX5_isOutOfReach_45 (by decide) (by decide) (fun c45 => ?_) (fun c45 => ?_)
        rotate_left
        · exact absurd c45 (by decide)
        refine lv_iconst (v := nI 0) hx hb dX5_isOutOfReach_59 (by decide) ?_
        subst hQ
        exact ret_i hx hb hr hlk mv (bI_0 (by first | (simp only [otN, c4, hpy, ← hod, c52, Bool.and_false, Bool.or_false]; done) | (simp only [otN, c4, Bool.false_or]; have hz9 : ¬ (nr = 3 ∧ nc = 3) := fun z => c15 ((dm9 hd).mpr z); by_cases h3 : nr = 3; (rw [decide_eq_false (show ¬ nc = 3 from fun z => hz9 ⟨h3, z⟩)]; simp); (rw [decide_eq_false h3]; simp)) | (simp only [otN, c4, Bool.false_or]; rw [show pry pL pG (nr * nc) 1 = false from by simp only [pry, decide_eq_false (show ¬ ul pL (nr * nc) = nr * nc by omega)]; rfl]; simp) | (simp only [otN, c4, Bool.false_or]; rw [show pry pL pG (nr * nc) 1 = false from by simp only [pry, decide_eq_false (show ¬ tm pG (nr * nc) 46 ≤ 1 by omega), Bool.and_false, Bool.false_and]]; simp))) hP hD hS rfl dX5_isOutOfReach_60
      · skip
        refine lv_aload_n hx hb dX5_isOutOfReach_27 rfl (lv_at hl 0 rfl) ?_
        refine lv_bipush (v := nI 23) hx hb dX5_isOutOfReach_28 (by decide) ?_
        refine lv_iconst (v := (-1)) hx hb dX5_isOutOfReach_30 (by decide) ?_
        refine callVi (As := [.int (nI 23), .int (-1)]) (rest := []) (wc := (MW G mh md nr nc pL pG pB pk bf hi sv ch hs inp ty er wy wd rf lt ln th tr mv fo sp wr td)) (wr := ([] : va_W)) ⟨hx, hb, hml, hown, hts⟩ (m_X5_timesOf__F l G mh md nr nc pL pG pB pk bf hi sv ch hs inp ty er wy wd rf lt ln th tr mv fo sp wr td (by first | assumption | omega) (by first | assumption | omega)) (cwV 2 hts (lw_V q1971 q1973 qs66 q105 q1974) rfl rfl rfl (by decide +kernel) ⟨Nat.le_of_ble_eq_true rfl, Nat.le_of_ble_eq_true rfl⟩) hK hZ hA hP hD hS [0, 1, 2, 3, 4, 5, 6, 7, 8, 9] [] rfl rfl (by decide) (by decide) (by decide) 0 4 rfl rfl rfl hl.1 (Nat.le_of_ble_eq_true rfl) ⟨Nat.le_of_ble_eq_true rfl, Nat.le_of_ble_eq_true rfl⟩ rfl dX5_isOutOfReach_31 (fun r9 u9 H locs hw9 hP hD hS => ?_)
        subst hw9
        have hP : va_P G.1 CL (MW G mh md nr nc pL pG pB pk bf hi sv ch hs inp ty er wy wd rf lt ln th tr mv fo sp wr td) _ := hP
        have hD : va_D A (MW G mh md nr nc pL pG pB pk bf hi sv ch hs inp ty er wy wd rf lt ln th tr mv fo sp wr td) := hD
        refine lv_iconst (v := nI 2) hx hb dX5_isOutOfReach_34 (by decide) ?_
        refine n_cmp_ge (tgt := 42) hx hb dX5_isOutOfReach_35 (by decide) (by have := tm_le pG (nr * nc) 46; omega) (by decide) (fun c35 => ?_) (fun c35 => ?_)
        · skip
          refine lv_iconst (v := nI 0) hx hb dX5_isOutOfReach_42 (by decide) ?_
          refine lv_istore_n (lv' := [(1, .int (nI 0)), (0, .ref mh)]) hx hb dX5_isOutOfReach_43 rfl hl (by decide) rfl (fun ls hl => ?_)
          refine lv_iload_n hx hb dX5_isOutOfReach_44 rfl (lv_at hl 0 rfl) ?_
          refine n_if_eq (tgt := 59) hx hb dX5_isOutOfReach_45 (by decide) (by decide) (fun c45 => ?_) (fun c45 => ?_)
          rotate_left
          · exact absurd c45 (by decide)
          refine lv_iconst (v := nI 0) hx hb dX5_isOutOfReach_59 (by decide) ?_
          subst hQ
          exact ret_i hx hb hr hlk mv (bI_0 (by first | (simp only [otN, c4, hpy, ← hod, c52, Bool.and_false, Bool.or_false]; done) | (simp only [otN, c4, Bool.false_or]; have hz9 : ¬ (nr = 3 ∧ nc = 3) := fun z => c15 ((dm9 hd).mpr z); by_cases h3 : nr = 3; (rw [decide_eq_false (show ¬ nc = 3 from fun z => hz9 ⟨h3, z⟩)]; simp); (rw [decide_eq_false h3]; simp)) | (simp only [otN, c4, Bool.false_or]; rw [show pry pL pG (nr * nc) 1 = false from by simp only [pry, decide_eq_false (show ¬ ul pL (nr * nc) = nr * nc by omega)]; rfl]; simp) | (simp only [otN, c4, Bool.false_or]; rw [show pry pL pG (nr * nc) 1 = false from by simp only [pry, decide_eq_false (show ¬ tm pG (nr * nc) 46 ≤ 1 by omega), Bool.and_false, Bool.false_and]]; simp))) hP hD hS rfl dX5_isOutOfReach_60
        · skip
          refine lv_iconst (v := nI 1) hx hb dX5_isOutOfReach_38 (by decide) ?_
          refine lv_goto (tgt := 43) hx hb dX5_isOutOfReach_39 (by decide) ?_
          refine lv_istore_n (lv' := [(1, .int (nI 1)), (0, .ref mh)]) hx hb dX5_isOutOfReach_43 rfl hl (by decide) rfl (fun ls hl => ?_)
          refine lv_iload_n hx hb dX5_isOutOfReach_44 rfl (lv_at hl 0 rfl) ?_
          refine n_if_eq (tgt := 59) hx hb dX5_isOutOfReach_45 (by decide) (by decide) (fun c45 => ?_) (fun c45 => ?_)
          · exact absurd c45 (by decide)
          have h39 := (dm9 hd).mp c15
          have hpy : pry pL pG (nr * nc) 1 = true := by simp only [pry, c4, decide_eq_true (show ul pL (nr * nc) = nr * nc by omega), decide_eq_true (show tm pG (nr * nc) 46 ≤ 1 by omega)]; rfl
          refine lv_aload_n hx hb dX5_isOutOfReach_48 rfl (lv_at hl 1 rfl) ?_
          refine callVi (As := []) (rest := []) (wc := (MW G mh md nr nc pL pG pB pk bf hi sv ch hs inp ty er wy wd rf lt ln th tr mv fo sp wr td)) (wr := ([] : va_W)) ⟨hx, hb, hml, hown, hts⟩ (m_X5_swapsAreOdd l G mh md nr nc pL pG pB pk bf hi sv ch hs inp ty er wy wd rf lt ln th tr mv fo sp wr td (by first | assumption | omega) (by first | assumption | omega) (by first | assumption | omega) (mvF_lt (by omega) hLR hKR hpy)) (cwV 0 hts (lw_V q1979 q1981 qs68 q105 q1982) rfl rfl rfl (by decide +kernel) ⟨Nat.le_of_ble_eq_true rfl, Nat.le_of_ble_eq_true rfl⟩) hK hZ hA hP hD hS [0, 1, 2, 3, 4, 5, 6, 7, 8, 9] [] rfl rfl (by decide) (by decide) (by decide) 0 4 rfl rfl rfl hl.1 (Nat.le_of_ble_eq_true rfl) ⟨Nat.le_of_ble_eq_true rfl, Nat.le_of_ble_eq_true rfl⟩ rfl dX5_isOutOfReach_49 (fun r9 u9 H locs hw9 hP hD hS => ?_)
          obtain ⟨mv1_5, e9⟩ : ∃ z, z = u9 := ⟨_, rfl⟩
          subst e9
          subst hw9
          have hP : va_P G.1 CL (MW G mh md nr nc pL pG pB pk bf hi sv ch hs inp ty er wy wd rf lt ln th tr mv1_5 fo sp wr td) _ := hP
          have hD : va_D A (MW G mh md nr nc pL pG pB pk bf hi sv ch hs inp ty er wy wd rf lt ln th tr mv1_5 fo sp wr td) := hD
          have hod := sw_odd (mv := mv) (show nr * nc ≤ 9 by omega) hLR hKR hpy
          refine b_if_eq (tgt := 59) hx hb dX5_isOutOfReach_52 (by decide) (fun c52 => ?_) (fun c52 => ?_)
          · skip
            refine lv_iconst (v := nI 0) hx hb dX5_isOutOfReach_59 (by decide) ?_
            subst hQ
            exact ret_i hx hb hr hlk mv1_5 (bI_0 (by first | (simp only [otN, c4, hpy, ← hod, c52, Bool.and_false, Bool.or_false]; done) | (simp only [otN, c4, Bool.false_or]; have hz9 : ¬ (nr = 3 ∧ nc = 3) := fun z => c15 ((dm9 hd).mpr z); by_cases h3 : nr = 3; (rw [decide_eq_false (show ¬ nc = 3 from fun z => hz9 ⟨h3, z⟩)]; simp); (rw [decide_eq_false h3]; simp)) | (simp only [otN, c4, Bool.false_or]; rw [show pry pL pG (nr * nc) 1 = false from by simp only [pry, decide_eq_false (show ¬ ul pL (nr * nc) = nr * nc by omega)]; rfl]; simp) | (simp only [otN, c4, Bool.false_or]; rw [show pry pL pG (nr * nc) 1 = false from by simp only [pry, decide_eq_false (show ¬ tm pG (nr * nc) 46 ≤ 1 by omega), Bool.and_false, Bool.false_and]]; simp))) hP hD hS rfl dX5_isOutOfReach_60
          · skip
            refine lv_iconst (v := nI 1) hx hb dX5_isOutOfReach_55 (by decide) ?_
            refine lv_goto (tgt := 60) hx hb dX5_isOutOfReach_56 (by decide) ?_
            subst hQ
            exact ret_i hx hb hr hlk mv1_5 (bI_1 (by simp only [otN, c4, hpy, decide_eq_true h39.1, decide_eq_true h39.2, ← hod, c52]; rfl)) hP hD hS rfl dX5_isOutOfReach_60
  · skip
    refine lv_iconst (v := nI 1) hx hb dX5_isOutOfReach_7 (by decide) ?_
    subst hQ
    exact ret_i hx hb hr hlk mv (bI_1 (by simp [otN, c4])) hP hD hS rfl dX5_isOutOfReach_8
set_option maxHeartbeats 4000000 in
set_option maxRecDepth 100000 in
theorem m_X5_isOut (l : Launch) (G : GG) (mh : Nat) (md : Nat → Nat) (nr : Nat) (nc : Nat) (pL : Nat → Nat) (pG : Nat → Nat) (pB : Nat → Bool) (pk : Nat → Int32) (bf : Nat → Int32) (hi : Nat → Int32) (sv : Nat → Int32) (ch : Nat) (hs : Bool) (inp : Nat → Nat) (ty : Nat) (er : Int32) (wy : Int32) (wd : Int32) (rf : Bool) (lt : Nat → Nat) (ln : Nat) (th : Int32) (tr : Nat → Nat) (mv : Nat → Nat) (fo : Int32) (sp : Nat) (wr : Bool) (td : Nat → Int32) (hd : 2 ≤ nr ∧ nr ≤ 3 ∧ 2 ≤ nc ∧ nc ≤ 3) (hLR : ∀ q, q < nr * nc → 97 ≤ pL q ∧ pL q ≤ 108) (hKR : ∀ q, q < nr * nc → pG q = 46 ∨ (97 ≤ pG q ∧ pG q ≤ 108)) : MM l G yX5_isOut cX5_isOut 1 (some .boolean) ⟨4, 0, 0, 88⟩ [.ref mh] (MW G mh md nr nc pL pG pB pk bf hi sv ch hs inp ty er wy wd rf lt ln th tr mv fo sp wr td) (Qi_ G (fun (r : Int32) (u : (Nat → Nat)) => r = bI (otN nr nc pL pG)) (fun (u : (Nat → Nat)) => (MW G mh md nr nc pL pG pB pk bf hi sv ch hs inp ty er wy wd rf lt ln (nI 0) tr u fo sp wr td))) := by
  refine MM.of (by decide) (Nat.le_of_ble_eq_true rfl) ?_
  intro p e s m args below meth cd A C hini hA hK hZ hP hD ls hl
  generalize hQ : MQ below ((Qi_ G (fun (r : Int32) (u : (Nat → Nat)) => r = bI (otN nr nc pL pG)) (fun (u : (Nat → Nat)) => (MW G mh md nr nc pL pG pB pk bf hi sv ch hs inp ty er wy wd rf lt ln (nI 0) tr u fo sp wr td))) A) args s (⟨4, 0, 0, 88⟩ : Room).cells (⟨4, 0, 0, 88⟩ : Room).slots A = Q
  obtain ⟨hx, hb, hr, hts, hown, hlk, hml⟩ := C
  have hown : s.vm.findClass RX5 = some m.cls := hown
  have hS : va_S A s.heap s.heap [] := va_S.rf
  have hl : lv_has ls 1 [(0, .ref mh)] := hl
  have hmu := dm_mul hd
  refine lv_aload_n hx hb dX5_isOut_0 rfl (lv_at hl 0 rfl) ?_
  refine lv_iconst (v := nI 0) hx hb dX5_isOut_1 (by decide) ?_
  refine va_put (D := G.1) (ci := 4) (v := .int (nI 0)) (ty := .int) (C := RX5) (T := TX5) (N := 21) hx hb hts in_X5 tyX5 tyX5_ok nmX5 hown hK hP hD hS 0 rfl rfl 14 (by decide) (hts _ q1741) (fun _ h9 => h9) rfl (by decide +kernel) rfl rfl (Nat.le_of_ble_eq_true rfl) dX5_isOut_2 (fun H locs hP hD hS => ?_)
  have hP : va_P G.1 CL (MW G mh md nr nc pL pG pB pk bf hi sv ch hs inp ty er wy wd rf lt ln (nI 0) tr mv fo sp wr td) _ := hP
  have hD : va_D A (MW G mh md nr nc pL pG pB pk bf hi sv ch hs inp ty er wy wd rf lt ln (nI 0) tr mv fo sp wr td) := hD
  refine lv_aload_n hx hb dX5_isOut_5 rfl (lv_at hl 0 rfl) ?_
  refine callVi (As := []) (rest := []) (wc := (MW G mh md nr nc pL pG pB pk bf hi sv ch hs inp ty er wy wd rf lt ln (nI 0) tr mv fo sp wr td)) (wr := ([] : va_W)) ⟨hx, hb, hml, hown, hts⟩ (m_X5_isOutOfReach l G mh md nr nc pL pG pB pk bf hi sv ch hs inp ty er wy wd rf lt ln (nI 0) tr mv fo sp wr td (by first | assumption | omega) (by first | assumption | omega) (by first | assumption | omega)) (cwV 0 hts (lw_V q1963 q1965 qs64 q105 q1966) rfl rfl rfl (by decide +kernel) ⟨Nat.le_of_ble_eq_true rfl, Nat.le_of_ble_eq_true rfl⟩) hK hZ hA hP hD hS [0, 1, 2, 3, 4, 5, 6, 7, 8, 9] [] rfl rfl (by decide) (by decide) (by decide) 0 4 rfl rfl rfl hl.1 (Nat.le_of_ble_eq_true rfl) ⟨Nat.le_of_ble_eq_true rfl, Nat.le_of_ble_eq_true rfl⟩ rfl dX5_isOut_6 (fun r9 u9 H locs hw9 hP hD hS => ?_)
  obtain ⟨mv1_1, e9⟩ : ∃ z, z = u9 := ⟨_, rfl⟩
  subst e9
  subst hw9
  have hP : va_P G.1 CL (MW G mh md nr nc pL pG pB pk bf hi sv ch hs inp ty er wy wd rf lt ln (nI 0) tr mv1_1 fo sp wr td) _ := hP
  have hD : va_D A (MW G mh md nr nc pL pG pB pk bf hi sv ch hs inp ty er wy wd rf lt ln (nI 0) tr mv1_1 fo sp wr td) := hD
  subst hQ
  exact ret_i hx hb hr hlk mv1_1 rfl hP hD hS (bI_nar _) dX5_isOut_9
set_option maxHeartbeats 4000000 in
set_option maxRecDepth 100000 in
theorem m_X5_isOdd (l : Launch) (G : GG) (mh : Nat) (md : Nat → Nat) (nr : Nat) (nc : Nat) (pL : Nat → Nat) (pG : Nat → Nat) (pB : Nat → Bool) (pk : Nat → Int32) (bf : Nat → Int32) (hi : Nat → Int32) (sv : Nat → Int32) (ch : Nat) (hs : Bool) (inp : Nat → Nat) (ty : Nat) (er : Int32) (wy : Int32) (wd : Int32) (rf : Bool) (lt : Nat → Nat) (ln : Nat) (th : Int32) (tr : Nat → Nat) (mv : Nat → Nat) (fo : Int32) (sp : Nat) (wr : Bool) (td : Nat → Int32) (az : Int32) (hd : 2 ≤ nr ∧ nr ≤ 3 ∧ 2 ≤ nc ∧ nc ≤ 3) (hLR : ∀ q, q < nr * nc → 97 ≤ pL q ∧ pL q ≤ 108) (hKR : ∀ q, q < nr * nc → pG q = 46 ∨ (97 ≤ pG q ∧ pG q ≤ 108)) : MM l G yX5_isOdd cX5_isOdd 3 (some .boolean) ⟨3, 0, 0, 67⟩ [.ref mh, .int az] (MW G mh md nr nc pL pG pB pk bf hi sv ch hs inp ty er wy wd rf lt ln th tr mv fo sp wr td) (Qi_ G (fun (r : Int32) (u : (Nat → Nat)) => r = bI ((pry pL pG (nr * nc) 0) && (odN (hoN (nr * nc) pL pG) (nr * nc)))) (fun (u : (Nat → Nat)) => (MW G mh md nr nc pL pG pB pk bf hi sv ch hs inp ty er wy wd rf lt ln (bI (!(pry pL pG (nr * nc) 0))) tr u fo sp wr td))) := by
  refine MM.of (by decide) (Nat.le_of_ble_eq_true rfl) ?_
  intro p e s m args below meth cd A C hini hA hK hZ hP hD ls hl
  generalize hQ : MQ below ((Qi_ G (fun (r : Int32) (u : (Nat → Nat)) => r = bI ((pry pL pG (nr * nc) 0) && (odN (hoN (nr * nc) pL pG) (nr * nc)))) (fun (u : (Nat → Nat)) => (MW G mh md nr nc pL pG pB pk bf hi sv ch hs inp ty er wy wd rf lt ln (bI (!(pry pL pG (nr * nc) 0))) tr u fo sp wr td))) A) args s (⟨3, 0, 0, 67⟩ : Room).cells (⟨3, 0, 0, 67⟩ : Room).slots A = Q
  obtain ⟨hx, hb, hr, hts, hown, hlk, hml⟩ := C
  have hown : s.vm.findClass RX5 = some m.cls := hown
  have hS : va_S A s.heap s.heap [] := va_S.rf
  have hl : lv_has ls 3 [(0, .ref mh), (1, .int az)] := hl
  have hmu := dm_mul hd
  refine lv_aload_n hx hb dX5_isOdd_0 rfl (lv_at hl 0 rfl) ?_
  refine callVi (As := []) (rest := []) (wc := (MW G mh md nr nc pL pG pB pk bf hi sv ch hs inp ty er wy wd rf lt ln th tr mv fo sp wr td)) (wr := ([] : va_W)) ⟨hx, hb, hml, hown, hts⟩ (m_X5_unlike l G mh md nr nc pL pG pB pk bf hi sv ch hs inp ty er wy wd rf lt ln th tr mv fo sp wr td (by first | assumption | omega) (by first | assumption | omega)) (cwV 0 hts (lw_V q1975 q1977 qs67 q105 q1978) rfl rfl rfl (by decide +kernel) ⟨Nat.le_of_ble_eq_true rfl, Nat.le_of_ble_eq_true rfl⟩) hK hZ hA hP hD hS [0, 1, 2, 3, 4, 5, 6, 7, 8, 9] [] rfl rfl (by decide) (by decide) (by decide) 0 4 rfl rfl rfl hl.1 (Nat.le_of_ble_eq_true rfl) ⟨Nat.le_of_ble_eq_true rfl, Nat.le_of_ble_eq_true rfl⟩ rfl dX5_isOdd_1 (fun r9 u9 H locs hw9 hP hD hS => ?_)
  subst hw9
  have hP : va_P G.1 CL (MW G mh md nr nc pL pG pB pk bf hi sv ch hs inp ty er wy wd rf lt ln th tr mv fo sp wr td) _ := hP
  have hD : va_D A (MW G mh md nr nc pL pG pB pk bf hi sv ch hs inp ty er wy wd rf lt ln th tr mv fo sp wr td) := hD
  refine lv_aload_n hx hb dX5_isOdd_4 rfl (lv_at hl 0 rfl) ?_
  refine callVi (As := []) (rest := [.int (nI (ul pL (nr * nc)))]) (wc := (MW G mh md nr nc pL pG pB pk bf hi sv ch hs inp ty er wy wd rf lt ln th tr mv fo sp wr td)) (wr := ([] : va_W)) ⟨hx, hb, hml, hown, hts⟩ (m_X5_places l G mh md nr nc pL pG pB pk bf hi sv ch hs inp ty er wy wd rf lt ln th tr mv fo sp wr td ) (cwV 0 hts (lw_V q1817 q1819 qs38 q105 q1820) rfl rfl rfl (by decide +kernel) ⟨Nat.le_of_ble_eq_true rfl, Nat.le_of_ble_eq_true rfl⟩) hK hZ hA hP hD hS [0, 1, 2, 3, 4, 5, 6, 7, 8, 9] [] rfl rfl (by decide) (by decide) (by decide) 0 4 rfl rfl rfl hl.1 (Nat.le_of_ble_eq_true rfl) ⟨Nat.le_of_ble_eq_true rfl, Nat.le_of_ble_eq_true rfl⟩ rfl dX5_isOdd_5 (fun r9 u9 H locs hw9 hP hD hS => ?_)
  subst hw9
  have hP : va_P G.1 CL (MW G mh md nr nc pL pG pB pk bf hi sv ch hs inp ty er wy wd rf lt ln th tr mv fo sp wr td) _ := hP
  have hD : va_D A (MW G mh md nr nc pL pG pB pk bf hi sv ch hs inp ty er wy wd rf lt ln th tr mv fo sp wr td) := hD
  refine n_cmp_ne (tgt := 32) hx hb dX5_isOdd_8 (by decide) (by have := cn_le (fun v => decide (0 < tm pL (nr * nc) (97 + v))) 12; have h9 : ul pL (nr * nc) ≤ 12 := this; omega) (by omega) (fun c8 => ?_) (fun c8 => ?_)
  · skip
    have hpn : (pry pL pG (nr * nc) 0) = false := by first | (simp only [pry, decide_eq_false c8]; rfl) | (simp only [pry, c15, Bool.not_true, Bool.and_false]; done) | (simp only [pry, decide_eq_false (show ¬ tm pG (nr * nc) 46 ≤ 0 by omega), Bool.and_false, Bool.false_and]; done)
    refine lv_iconst (v := nI 0) hx hb dX5_isOdd_32 (by decide) ?_
    refine lv_istore_n (lv' := [(2, .int (nI 0)), (0, .ref mh), (1, .int az)]) hx hb dX5_isOdd_33 rfl hl (by decide) rfl (fun ls hl => ?_)
    refine lv_aload_n hx hb dX5_isOdd_34 rfl (lv_at hl 1 rfl) ?_
    refine lv_iload_n hx hb dX5_isOdd_35 rfl (lv_at hl 0 rfl) ?_
    refine n_if_eq (tgt := 43) hx hb dX5_isOdd_36 (by decide) (by decide) (fun c36 => ?_) (fun c36 => ?_)
    rotate_left
    · exact absurd c36 (by decide)
    refine lv_iconst (v := nI 1) hx hb dX5_isOdd_43 (by decide) ?_
    refine va_put (D := G.1) (ci := 4) (v := .int (nI 1)) (ty := .int) (C := RX5) (T := TX5) (N := 21) hx hb hts in_X5 tyX5 tyX5_ok nmX5 hown hK hP hD hS 0 rfl rfl 14 (by decide) (hts _ q1741) (fun _ h9 => h9) rfl (by decide +kernel) rfl rfl (Nat.le_of_ble_eq_true rfl) dX5_isOdd_44 (fun H locs hP hD hS => ?_)
    have hP : va_P G.1 CL (MW G mh md nr nc pL pG pB pk bf hi sv ch hs inp ty er wy wd rf lt ln (nI 1) tr mv fo sp wr td) _ := hP
    have hD : va_D A (MW G mh md nr nc pL pG pB pk bf hi sv ch hs inp ty er wy wd rf lt ln (nI 1) tr mv fo sp wr td) := hD
    refine lv_iload_n hx hb dX5_isOdd_47 rfl (lv_at hl 0 rfl) ?_
    refine n_if_eq (tgt := 62) hx hb dX5_isOdd_48 (by decide) (by decide) (fun c48 => ?_) (fun c48 => ?_)
    rotate_left
    · exact absurd c48 (by decide)
    refine lv_iconst (v := nI 0) hx hb dX5_isOdd_62 (by decide) ?_
    have e_th : nI 1 = (bI (!(pry pL pG (nr * nc) 0))) := (by rw [hpn]; rfl)
    rw [e_th] at hP hD
    subst hQ
    exact ret_i hx hb hr hlk mv (bI_0 (by first | (rw [hpn]; rfl) | (rw [hpy, ← hod, c55]; rfl))) hP hD hS rfl dX5_isOdd_63
  · skip
    refine lv_aload_n hx hb dX5_isOdd_11 rfl (lv_at hl 0 rfl) ?_
    refine callVi (As := []) (rest := []) (wc := (MW G mh md nr nc pL pG pB pk bf hi sv ch hs inp ty er wy wd rf lt ln th tr mv fo sp wr td)) (wr := ([] : va_W)) ⟨hx, hb, hml, hown, hts⟩ (m_X5_lacksLetters l G mh md nr nc pL pG pB pk bf hi sv ch hs inp ty er wy wd rf lt ln th tr mv fo sp wr td (by first | assumption | omega) (by first | assumption | omega) (by first | assumption | omega)) (cwV 0 hts (lw_V q1967 q1969 qs65 q105 q1970) rfl rfl rfl (by decide +kernel) ⟨Nat.le_of_ble_eq_true rfl, Nat.le_of_ble_eq_true rfl⟩) hK hZ hA hP hD hS [0, 1, 2, 3, 4, 5, 6, 7, 8, 9] [] rfl rfl (by decide) (by decide) (by decide) 0 4 rfl rfl rfl hl.1 (Nat.le_of_ble_eq_true rfl) ⟨Nat.le_of_ble_eq_true rfl, Nat.le_of_ble_eq_true rfl⟩ rfl dX5_isOdd_12 (fun r9 u9 H locs hw9 hP hD hS => ?_)
    subst hw9
    have hP : va_P G.1 CL (MW G mh md nr nc pL pG pB pk bf hi sv ch hs inp ty er wy wd rf lt ln th tr mv fo sp wr td) _ := hP
    have hD : va_D A (MW G mh md nr nc pL pG pB pk bf hi sv ch hs inp ty er wy wd rf lt ln th tr mv fo sp wr td) := hD
    refine b_if_ne (tgt := 32) hx hb dX5_isOdd_15 (by decide) (fun c15 => ?_) (fun c15 => ?_)
    · skip
      have hpn : (pry pL pG (nr * nc) 0) = false := by first | (simp only [pry, decide_eq_false c8]; rfl) | (simp only [pry, c15, Bool.not_true, Bool.and_false]; done) | (simp only [pry, decide_eq_false (show ¬ tm pG (nr * nc) 46 ≤ 0 by omega), Bool.and_false, Bool.false_and]; done)
      refine lv_iconst (v := nI 0) hx hb dX5_isOdd_32 (by decide) ?_
      refine lv_istore_n (lv' := [(2, .int (nI 0)), (0, .ref mh), (1, .int az)]) hx hb dX5_isOdd_33 rfl hl (by decide) rfl (fun ls hl => ?_)
      refine lv_aload_n hx hb dX5_isOdd_34 rfl (lv_at hl 1 rfl) ?_
      refine lv_iload_n hx hb dX5_isOdd_35 rfl (lv_at hl 0 rfl) ?_
      refine n_if_eq (tgt := 43) hx hb dX5_isOdd_36 (by decide) (by decide) (fun c36 => ?_) (fun c36 => ?_)
      rotate_left
      · exact absurd c36 (by decide)
      refine lv_iconst (v := nI 1) hx hb dX5_isOdd_43 (by decide) ?_
      refine va_put (D := G.1) (ci := 4) (v := .int (nI 1)) (ty := .int) (C := RX5) (T := TX5) (N := 21) hx hb hts in_X5 tyX5 tyX5_ok nmX5 hown hK hP hD hS 0 rfl rfl 14 (by decide) (hts _ q1741) (fun _ h9 => h9) rfl (by decide +kernel) rfl rfl (Nat.le_of_ble_eq_true rfl) dX5_isOdd_44 (fun H locs hP hD hS => ?_)
      have hP : va_P G.1 CL (MW G mh md nr nc pL pG pB pk bf hi sv ch hs inp ty er wy wd rf lt ln (nI 1) tr mv fo sp wr td) _ := hP
      have hD : va_D A (MW G mh md nr nc pL pG pB pk bf hi sv ch hs inp ty er wy wd rf lt ln (nI 1) tr mv fo sp wr td) := hD
      refine lv_iload_n hx hb dX5_isOdd_47 rfl (lv_at hl 0 rfl) ?_
      refine n_if_eq (tgt := 62) hx hb dX5_isOdd_48 (by decide) (by decide) (fun c48 => ?_) (fun c48 => ?_)
      rotate_left
      · exact absurd c48 (by decide)
      refine lv_iconst (v := nI 0) hx hb dX5_isOdd_62 (by decide) ?_
      have e_th : nI 1 = (bI (!(pry pL pG (nr * nc) 0))) := (by rw [hpn]; rfl)
      rw [e_th] at hP hD
      subst hQ
      exact ret_i hx hb hr hlk mv (bI_0 (by first | (rw [hpn]; rfl) | (rw [hpy, ← hod, c55]; rfl))) hP hD hS rfl dX5_isOdd_63
    · skip
      refine lv_aload_n hx hb dX5_isOdd_18 rfl (lv_at hl 0 rfl) ?_
      refine lv_bipush (v := nI 23) hx hb dX5_isOdd_19 (by decide) ?_
      refine lv_iconst (v := (-1)) hx hb dX5_isOdd_21 (by decide) ?_
      refine callVi (As := [.int (nI 23), .int (-1)]) (rest := []) (wc := (MW G mh md nr nc pL pG pB pk bf hi sv ch hs inp ty er wy wd rf lt ln th tr mv fo sp wr td)) (wr := ([] : va_W)) ⟨hx, hb, hml, hown, hts⟩ (m_X5_timesOf__F l G mh md nr nc pL pG pB pk bf hi sv ch hs inp ty er wy wd rf lt ln th tr mv fo sp wr td (by first | assumption | omega) (by first | assumption | omega)) (cwV 2 hts (lw_V q1971 q1973 qs66 q105 q1974) rfl rfl rfl (by decide +kernel) ⟨Nat.le_of_ble_eq_true rfl, Nat.le_of_ble_eq_true rfl⟩) hK hZ hA hP hD hS [0, 1, 2, 3, 4, 5, 6, 7, 8, 9] [] rfl rfl (by decide) (by decide) (by decide) 0 4 rfl rfl rfl hl.1 (Nat.le_of_ble_eq_true rfl) ⟨Nat.le_of_ble_eq_true rfl, Nat.le_of_ble_eq_true rfl⟩ rfl dX5_isOdd_22 (fun r9 u9 H locs hw9 hP hD hS => ?_)
      subst hw9
      have hP : va_P G.1 CL (MW G mh md nr nc pL pG pB pk bf hi sv ch hs inp ty er wy wd rf lt ln th tr mv fo sp wr td) _ := hP
      have hD : va_D A (MW G mh md nr nc pL pG pB pk bf hi sv ch hs inp ty er wy wd rf lt ln th tr mv fo sp wr td) := hD
      refine n_if_ne (tgt := 32) hx hb dX5_isOdd_25 (by decide) (by have := tm_le pG (nr * nc) 46; omega) (fun c25 => ?_) (fun c25 => ?_)
      · skip
        have hpn : (pry pL pG (nr * nc) 0) = false := by first | (simp only [pry, decide_eq_false c8]; rfl) | (simp only [pry, c15, Bool.not_true, Bool.and_false]; done) | (simp only [pry, decide_eq_false (show ¬ tm pG (nr * nc) 46 ≤ 0 by omega), Bool.and_false, Bool.false_and]; done)
        refine lv_iconst (v := nI 0) hx hb dX5_isOdd_32 (by decide) ?_
        refine lv_istore_n (lv' := [(2, .int (nI 0)), (0, .ref mh), (1, .int az)]) hx hb dX5_isOdd_33 rfl hl (by decide) rfl (fun ls hl => ?_)
        refine lv_aload_n hx hb dX5_isOdd_34 rfl (lv_at hl 1 rfl) ?_
        refine lv_iload_n hx hb dX5_isOdd_35 rfl (lv_at hl 0 rfl) ?_
        refine n_if_eq (tgt := 43) hx hb dX5_isOdd_36 (by decide) (by decide) (fun c36 => ?_) (fun c36 => ?_)
        rotate_left
        · exact absurd c36 (by decide)
        refine lv_iconst (v := nI 1) hx hb dX5_isOdd_43 (by decide) ?_
        refine va_put (D := G.1) (ci := 4) (v := .int (nI 1)) (ty := .int) (C := RX5) (T := TX5) (N := 21) hx hb hts in_X5 tyX5 tyX5_ok nmX5 hown hK hP hD hS 0 rfl rfl 14 (by decide) (hts _ q1741) (fun _ h9 => h9) rfl (by decide +kernel) rfl rfl (Nat.le_of_ble_eq_true rfl) dX5_isOdd_44 (fun H locs hP hD hS => ?_)
        have hP : va_P G.1 CL (MW G mh md nr nc pL pG pB pk bf hi sv ch hs inp ty er wy wd rf lt ln (nI 1) tr mv fo sp wr td) _ := hP
        have hD : va_D A (MW G mh md nr nc pL pG pB pk bf hi sv ch hs inp ty er wy wd rf lt ln (nI 1) tr mv fo sp wr td) := hD
        refine lv_iload_n hx hb dX5_isOdd_47 rfl (lv_at hl 0 rfl) ?_
        refine n_if_eq (tgt := 62) hx hb dX5_isOdd_48 (by decide) (by decide) (fun c48 => ?_) (fun c48 => ?_)
        rotate_left
        · exact absurd c48 (by decide)
        refine lv_iconst (v := nI 0) hx hb dX5_isOdd_62 (by decide) ?_
        have e_th : nI 1 = (bI (!(pry pL pG (nr * nc) 0))) := (by rw [hpn]; rfl)
        rw [e_th] at hP hD
        subst hQ
        exact ret_i hx hb hr hlk mv (bI_0 (by first | (rw [hpn]; rfl) | (rw [hpy, ← hod, c55]; rfl))) hP hD hS rfl dX5_isOdd_63
      · skip
        have hpy : (pry pL pG (nr * nc) 0) = true := by simp only [pry, c15, decide_eq_true c8, decide_eq_true (show tm pG (nr * nc) 46 ≤ 0 by omega)]; rfl
        refine lv_iconst (v := nI 1) hx hb dX5_isOdd_28 (by decide) ?_
        refine lv_goto (tgt := 33) hx hb dX5_isOdd_29 (by decide) ?_
        refine lv_istore_n (lv' := [(2, .int (nI 1)), (0, .ref mh), (1, .int az)]) hx hb dX5_isOdd_33 rfl hl (by decide) rfl (fun ls hl => ?_)
        refine lv_aload_n hx hb dX5_isOdd_34 rfl (lv_at hl 1 rfl) ?_
        refine lv_iload_n hx hb dX5_isOdd_35 rfl (lv_at hl 0 rfl) ?_
        refine n_if_eq (tgt := 43) hx hb dX5_isOdd_36 (by decide) (by decide) (fun c36 => ?_) (fun c36 => ?_)
        · exact absurd c36 (by decide)
        refine lv_iconst (v := nI 0) hx hb dX5_isOdd_39 (by decide) ?_
        refine lv_goto (tgt := 44) hx hb dX5_isOdd_40 (by decide) ?_
        refine va_put (D := G.1) (ci := 4) (v := .int (nI 0)) (ty := .int) (C := RX5) (T := TX5) (N := 21) hx hb hts in_X5 tyX5 tyX5_ok nmX5 hown hK hP hD hS 0 rfl rfl 14 (by decide) (hts _ q1741) (fun _ h9 => h9) rfl (by decide +kernel) rfl rfl (Nat.le_of_ble_eq_true rfl) dX5_isOdd_44 (fun H locs hP hD hS => ?_)
        have hP : va_P G.1 CL (MW G mh md nr nc pL pG pB pk bf hi sv ch hs inp ty er wy wd rf lt ln (nI 0) tr mv fo sp wr td) _ := hP
        have hD : va_D A (MW G mh md nr nc pL pG pB pk bf hi sv ch hs inp ty er wy wd rf lt ln (nI 0) tr mv fo sp wr td) := hD
        refine lv_iload_n hx hb dX5_isOdd_47 rfl (lv_at hl 0 rfl) ?_
        refine n_if_eq (tgt := 62) hx hb dX5_isOdd_48 (by decide) (by decide) (fun c48 => ?_) (fun c48 => ?_)
        · exact absurd c48 (by decide)
        refine lv_aload_n hx hb dX5_isOdd_51 rfl (lv_at hl 1 rfl) ?_
        refine callVi (As := []) (rest := []) (wc := (MW G mh md nr nc pL pG pB pk bf hi sv ch hs inp ty er wy wd rf lt ln (nI 0) tr mv fo sp wr td)) (wr := ([] : va_W)) ⟨hx, hb, hml, hown, hts⟩ (m_X5_swapsAreOdd l G mh md nr nc pL pG pB pk bf hi sv ch hs inp ty er wy wd rf lt ln (nI 0) tr mv fo sp wr td (by first | assumption | omega) (by first | assumption | omega) (by first | assumption | omega) (mvF_lt (by omega) hLR hKR (pry_01 hpy))) (cwV 0 hts (lw_V q1979 q1981 qs68 q105 q1982) rfl rfl rfl (by decide +kernel) ⟨Nat.le_of_ble_eq_true rfl, Nat.le_of_ble_eq_true rfl⟩) hK hZ hA hP hD hS [0, 1, 2, 3, 4, 5, 6, 7, 8, 9] [] rfl rfl (by decide) (by decide) (by decide) 0 4 rfl rfl rfl hl.1 (Nat.le_of_ble_eq_true rfl) ⟨Nat.le_of_ble_eq_true rfl, Nat.le_of_ble_eq_true rfl⟩ rfl dX5_isOdd_52 (fun r9 u9 H locs hw9 hP hD hS => ?_)
        obtain ⟨mv1_5, e9⟩ : ∃ z, z = u9 := ⟨_, rfl⟩
        subst e9
        subst hw9
        have hP : va_P G.1 CL (MW G mh md nr nc pL pG pB pk bf hi sv ch hs inp ty er wy wd rf lt ln (nI 0) tr mv1_5 fo sp wr td) _ := hP
        have hD : va_D A (MW G mh md nr nc pL pG pB pk bf hi sv ch hs inp ty er wy wd rf lt ln (nI 0) tr mv1_5 fo sp wr td) := hD
        have hod := sw_odd (mv := mv) (show nr * nc ≤ 9 by omega) hLR hKR (pry_01 hpy)
        refine b_if_eq (tgt := 62) hx hb dX5_isOdd_55 (by decide) (fun c55 => ?_) (fun c55 => ?_)
        · skip
          refine lv_iconst (v := nI 0) hx hb dX5_isOdd_62 (by decide) ?_
          have e_th : nI 0 = (bI (!(pry pL pG (nr * nc) 0))) := (by rw [hpy]; rfl)
          rw [e_th] at hP hD
          subst hQ
          exact ret_i hx hb hr hlk mv1_5 (bI_0 (by first | (rw [hpn]; rfl) | (rw [hpy, ← hod, c55]; rfl))) hP hD hS rfl dX5_isOdd_63
        · skip
          refine lv_iconst (v := nI 1) hx hb dX5_isOdd_58 (by decide) ?_
          refine lv_goto (tgt := 63) hx hb dX5_isOdd_59 (by decide) ?_
          have e_th : nI 0 = (bI (!(pry pL pG (nr * nc) 0))) := (by rw [hpy]; rfl)
          rw [e_th] at hP hD
          subst hQ
          exact ret_i hx hb hr hlk mv1_5 (bI_1 (by rw [hpy, ← hod, c55]; rfl)) hP hD hS rfl dX5_isOdd_63
set_option maxHeartbeats 4000000 in
set_option maxRecDepth 100000 in
theorem m_X5_steps (l : Launch) (G : GG) (mh : Nat) (md : Nat → Nat) (nr : Nat) (nc : Nat) (pL : Nat → Nat) (pG : Nat → Nat) (pB : Nat → Bool) (pk : Nat → Int32) (bf : Nat → Int32) (hi : Nat → Int32) (sv : Nat → Int32) (ch : Nat) (hs : Bool) (inp : Nat → Nat) (ty : Nat) (er : Int32) (wy : Int32) (wd : Int32) (rf : Bool) (lt : Nat → Nat) (ln : Nat) (th : Int32) (tr : Nat → Nat) (mv : Nat → Nat) (fo : Int32) (sp : Nat) (wr : Bool) (td : Nat → Int32) (hd : 2 ≤ nr ∧ nr ≤ 3 ∧ 2 ≤ nc ∧ nc ≤ 3) (hLR : ∀ q, q < nr * nc → 97 ≤ pL q ∧ pL q ≤ 108) (hKR : ∀ q, q < nr * nc → pG q = 46 ∨ (97 ≤ pG q ∧ pG q ≤ 108)) : MM l G yX5_steps cX5_steps 3 (some .int) ⟨4, 0, 0, 250⟩ [.ref mh] (MW G mh md nr nc pL pG pB pk bf hi sv ch hs inp ty er wy wd rf lt ln th tr mv fo sp wr td) (Qi_ G (fun (r : Int32) (u : (Nat → Nat) × (Nat → Nat) × (Int32)) => r = (oStep (nr, nc, pL, pG, pB, pk)).2.2.1) (fun (u : (Nat → Nat) × (Nat → Nat) × (Int32)) => (MW G mh md ((oStep (nr, nc, pL, pG, pB, pk)).2.1.1) ((oStep (nr, nc, pL, pG, pB, pk)).2.1.2.1) ((oStep (nr, nc, pL, pG, pB, pk)).2.1.2.2.1) ((oStep (nr, nc, pL, pG, pB, pk)).2.1.2.2.2.1) ((oStep (nr, nc, pL, pG, pB, pk)).2.1.2.2.2.2.1) ((oStep (nr, nc, pL, pG, pB, pk)).2.1.2.2.2.2.2) bf hi sv ch hs inp ty er (oWy (oStep (nr, nc, pL, pG, pB, pk)) wy) (oWd (oStep (nr, nc, pL, pG, pB, pk)) wd) (oRf (oStep (nr, nc, pL, pG, pB, pk)) rf) lt ln (nI (oStep (nr, nc, pL, pG, pB, pk)).1) u.1 u.2.1 u.2.2 sp wr td))) := by
  refine MM.of (by decide) (Nat.le_of_ble_eq_true rfl) ?_
  intro p e s m args below meth cd A C hini hA hK hZ hP hD ls hl
  generalize hQ : MQ below ((Qi_ G (fun (r : Int32) (u : (Nat → Nat) × (Nat → Nat) × (Int32)) => r = (oStep (nr, nc, pL, pG, pB, pk)).2.2.1) (fun (u : (Nat → Nat) × (Nat → Nat) × (Int32)) => (MW G mh md ((oStep (nr, nc, pL, pG, pB, pk)).2.1.1) ((oStep (nr, nc, pL, pG, pB, pk)).2.1.2.1) ((oStep (nr, nc, pL, pG, pB, pk)).2.1.2.2.1) ((oStep (nr, nc, pL, pG, pB, pk)).2.1.2.2.2.1) ((oStep (nr, nc, pL, pG, pB, pk)).2.1.2.2.2.2.1) ((oStep (nr, nc, pL, pG, pB, pk)).2.1.2.2.2.2.2) bf hi sv ch hs inp ty er (oWy (oStep (nr, nc, pL, pG, pB, pk)) wy) (oWd (oStep (nr, nc, pL, pG, pB, pk)) wd) (oRf (oStep (nr, nc, pL, pG, pB, pk)) rf) lt ln (nI (oStep (nr, nc, pL, pG, pB, pk)).1) u.1 u.2.1 u.2.2 sp wr td))) A) args s (⟨4, 0, 0, 250⟩ : Room).cells (⟨4, 0, 0, 250⟩ : Room).slots A = Q
  obtain ⟨hx, hb, hr, hts, hown, hlk, hml⟩ := C
  have hown : s.vm.findClass RX5 = some m.cls := hown
  have hS : va_S A s.heap s.heap [] := va_S.rf
  have hl : lv_has ls 3 [(0, .ref mh)] := hl
  have hmu := dm_mul hd
  have ha9 : awZ nr nc pL pG pB ≤ 4 := awN_le _
  refine lv_aload_n hx hb dX5_steps_0 rfl (lv_at hl 0 rfl) ?_
  refine callVi (As := []) (rest := []) (wc := (MW G mh md nr nc pL pG pB pk bf hi sv ch hs inp ty er wy wd rf lt ln th tr mv fo sp wr td)) (wr := ([] : va_W)) ⟨hx, hb, hml, hown, hts⟩ (m_X5_homes l G mh md nr nc pL pG pB pk bf hi sv ch hs inp ty er wy wd rf lt ln th tr mv fo sp wr td (by first | assumption | omega) (by first | assumption | omega) (by first | assumption | omega)) (cwV 0 hts (lw_V q1887 q1889 qs51 q105 q1890) rfl rfl rfl (by decide +kernel) ⟨Nat.le_of_ble_eq_true rfl, Nat.le_of_ble_eq_true rfl⟩) hK hZ hA hP hD hS [0, 1, 2, 3, 4, 5, 6, 7, 8, 9] [] rfl rfl (by decide) (by decide) (by decide) 0 4 rfl rfl rfl hl.1 (Nat.le_of_ble_eq_true rfl) ⟨Nat.le_of_ble_eq_true rfl, Nat.le_of_ble_eq_true rfl⟩ rfl dX5_steps_1 (fun r9 u9 H locs hw9 hP hD hS => ?_)
  obtain ⟨tr1_1, e9⟩ : ∃ z, z = u9 := ⟨_, rfl⟩
  subst e9
  obtain ⟨hr9, hw1⟩ := hw9
  subst hr9
  have hw1 : ∀ q, q < nr * nc → tr1_1 q = pL q - 97 := hw1
  have hP : va_P G.1 CL (MW G mh md nr nc pL pG pB pk bf hi sv ch hs inp ty er wy wd rf lt ln th tr1_1 mv fo sp wr td) _ := hP
  have hD : va_D A (MW G mh md nr nc pL pG pB pk bf hi sv ch hs inp ty er wy wd rf lt ln th tr1_1 mv fo sp wr td) := hD
  refine lv_istore_n (lv' := [(1, .int (nI (hm nr nc pL pG))), (0, .ref mh)]) hx hb dX5_steps_4 rfl hl (by decide) rfl (fun ls hl => ?_)
  refine lv_iload_n hx hb dX5_steps_5 rfl (lv_at hl 0 rfl) ?_
  refine lv_aload_n hx hb dX5_steps_6 rfl (lv_at hl 1 rfl) ?_
  refine callVi (As := []) (rest := [.int (nI (hm nr nc pL pG))]) (wc := (MW G mh md nr nc pL pG pB pk bf hi sv ch hs inp ty er wy wd rf lt ln th tr1_1 mv fo sp wr td)) (wr := ([] : va_W)) ⟨hx, hb, hml, hown, hts⟩ (m_X5_places l G mh md nr nc pL pG pB pk bf hi sv ch hs inp ty er wy wd rf lt ln th tr1_1 mv fo sp wr td ) (cwV 0 hts (lw_V q1817 q1819 qs38 q105 q1820) rfl rfl rfl (by decide +kernel) ⟨Nat.le_of_ble_eq_true rfl, Nat.le_of_ble_eq_true rfl⟩) hK hZ hA hP hD hS [0, 1, 2, 3, 4, 5, 6, 7, 8, 9] [] rfl rfl (by decide) (by decide) (by decide) 0 4 rfl rfl rfl hl.1 (Nat.le_of_ble_eq_true rfl) ⟨Nat.le_of_ble_eq_true rfl, Nat.le_of_ble_eq_true rfl⟩ rfl dX5_steps_7 (fun r9 u9 H locs hw9 hP hD hS => ?_)
  subst hw9
  have hP : va_P G.1 CL (MW G mh md nr nc pL pG pB pk bf hi sv ch hs inp ty er wy wd rf lt ln th tr1_1 mv fo sp wr td) _ := hP
  have hD : va_D A (MW G mh md nr nc pL pG pB pk bf hi sv ch hs inp ty er wy wd rf lt ln th tr1_1 mv fo sp wr td) := hD
  refine n_cmp_ne (tgt := 24) hx hb dX5_steps_10 (by decide) (by have := hm_le nr nc pL pG; omega) (by omega) (fun c10 => ?_) (fun c10 => ?_)
  · skip
    refine lv_aload_n hx hb dX5_steps_24 rfl (lv_at hl 1 rfl) ?_
    refine callVi (As := []) (rest := []) (wc := (MW G mh md nr nc pL pG pB pk bf hi sv ch hs inp ty er wy wd rf lt ln th tr1_1 mv fo sp wr td)) (wr := ([] : va_W)) ⟨hx, hb, hml, hown, hts⟩ (m_X5_isOutOfReach l G mh md nr nc pL pG pB pk bf hi sv ch hs inp ty er wy wd rf lt ln th tr1_1 mv fo sp wr td (by first | assumption | omega) (by first | assumption | omega) (by first | assumption | omega)) (cwV 0 hts (lw_V q1963 q1965 qs64 q105 q1966) rfl rfl rfl (by decide +kernel) ⟨Nat.le_of_ble_eq_true rfl, Nat.le_of_ble_eq_true rfl⟩) hK hZ hA hP hD hS [0, 1, 2, 3, 4, 5, 6, 7, 8, 9] [] rfl rfl (by decide) (by decide) (by decide) 0 4 rfl rfl rfl hl.1 (Nat.le_of_ble_eq_true rfl) ⟨Nat.le_of_ble_eq_true rfl, Nat.le_of_ble_eq_true rfl⟩ rfl dX5_steps_25 (fun r9 u9 H locs hw9 hP hD hS => ?_)
    obtain ⟨mv1_3, e9⟩ : ∃ z, z = u9 := ⟨_, rfl⟩
    subst e9
    subst hw9
    have hP : va_P G.1 CL (MW G mh md nr nc pL pG pB pk bf hi sv ch hs inp ty er wy wd rf lt ln th tr1_1 mv1_3 fo sp wr td) _ := hP
    have hD : va_D A (MW G mh md nr nc pL pG pB pk bf hi sv ch hs inp ty er wy wd rf lt ln th tr1_1 mv1_3 fo sp wr td) := hD
    refine b_if_eq (tgt := 44) hx hb dX5_steps_28 (by decide) (fun c28 => ?_) (fun c28 => ?_)
    · skip
      refine lv_aload_n hx hb dX5_steps_44 rfl (lv_at hl 1 rfl) ?_
      refine callVi (As := []) (rest := []) (wc := (MW G mh md nr nc pL pG pB pk bf hi sv ch hs inp ty er wy wd rf lt ln th tr1_1 mv1_3 fo sp wr td)) (wr := ([] : va_W)) ⟨hx, hb, hml, hown, hts⟩ (m_X5_shortest l G mh md nr nc pL pG pB pk bf hi sv ch hs inp ty er wy wd rf lt ln th tr1_1 mv1_3 fo sp wr td (by first | assumption | omega) (by first | assumption | omega) (by first | assumption | omega)) (cwV 0 hts (lw_V q1947 q1949 qs62 q105 q1950) rfl rfl rfl (by decide +kernel) ⟨Nat.le_of_ble_eq_true rfl, Nat.le_of_ble_eq_true rfl⟩) hK hZ hA hP hD hS [0, 1, 2, 3, 4, 5, 6, 7, 8, 9] [] rfl rfl (by decide) (by decide) (by decide) 0 4 rfl rfl rfl hl.1 (Nat.le_of_ble_eq_true rfl) ⟨Nat.le_of_ble_eq_true rfl, Nat.le_of_ble_eq_true rfl⟩ rfl dX5_steps_45 (fun r9 u9 H locs hw9 hP hD hS => ?_)
      obtain ⟨tr1_4, mv1_4, fo1_4⟩ := u9
      obtain ⟨hr9, hw45⟩ := hw9
      subst hr9
      have hw45 : 1 ≤ awZ nr nc pL pG pB → awZ nr nc pL pG pB < 4 → fo1_4 = nI (ftN nr nc pB pL pG (awZ nr nc pL pG pB - 1)) := hw45
      have hP : va_P G.1 CL (MW G mh md nr nc pL pG pB pk bf hi sv ch hs inp ty er wy wd rf lt ln th tr1_4 mv1_4 fo1_4 sp wr td) _ := hP
      have hD : va_D A (MW G mh md nr nc pL pG pB pk bf hi sv ch hs inp ty er wy wd rf lt ln th tr1_4 mv1_4 fo1_4 sp wr td) := hD
      refine lv_iconst (v := (-1)) hx hb dX5_steps_48 (by decide) ?_
      refine lv_icmp_ne (tgt := 58) hx hb dX5_steps_49 (by decide) (fun c49 => ?_) (fun c49 => ?_)
      · skip
        have h49 : ¬ awZ nr nc pL pG pB = 4 := fun z => c49 (by rw [z]; rfl)
        have ha0 : 1 ≤ awZ nr nc pL pG pB := by
          rcases Nat.eq_zero_or_pos (awZ nr nc pL pG pB) with z | z
          · exfalso; have h0 : rch nr nc pB pG 0 pL = true := by
              unfold awZ awN at z; by_cases h0 : rch nr nc pB pG 0 pL = true; (exact h0); (rw [if_neg h0] at z; revert z; (repeat' split) <;> intro z <;> exact absurd z (by decide))
            exact c10 (of_decide_eq_true h0)
          · exact z
        have hfo := hw45 ha0 (by omega)
        have hft : ftN nr nc pB pL pG (awZ nr nc pL pG pB - 1) < 2 * (nr + nc) := ft_lt (by omega) ha0 (by omega)
        refine lv_aload_n hx hb dX5_steps_58 rfl (lv_at hl 1 rfl) ?_
        refine va_get (D := G.1) (ci := 4) (v := .int fo1_4) (C := RX5) (T := TX5) (N := 21) hx hb hts in_X5 hown hK hP 0 rfl rfl 17 (by decide) (hts _ q1744) (fun _ h9 => h9) rfl dX5_steps_59 ?_
        refine eq_i (y := nI (ftN nr nc pB pL pG (awZ nr nc pL pG pB - 1))) hfo ?_
        refine lv_istore_n (lv' := [(2, .int (nI (ftN nr nc pB pL pG (awZ nr nc pL pG pB - 1)))), (1, .int (nI (hm nr nc pL pG))), (0, .ref mh)]) hx hb dX5_steps_62 rfl hl (by decide) rfl (fun ls hl => ?_)
        refine lv_aload_n hx hb dX5_steps_63 rfl (lv_at hl 2 rfl) ?_
        refine lv_iload_n hx hb dX5_steps_64 rfl (lv_at hl 0 rfl) ?_
        refine callVi (As := [.int (nI (ftN nr nc pB pL pG (awZ nr nc pL pG pB - 1)))]) (rest := []) (wc := (MW G mh md nr nc pL pG pB pk bf hi sv ch hs inp ty er wy wd rf lt ln th tr1_4 mv1_4 fo1_4 sp wr td)) (wr := ([] : va_W)) ⟨hx, hb, hml, hown, hts⟩ (m_X5_makesByHand l G mh md nr nc pL pG pB pk bf hi sv ch hs inp ty er wy wd rf lt ln th tr1_4 mv1_4 fo1_4 sp wr td (ftN nr nc pB pL pG (awZ nr nc pL pG pB - 1)) (by first | assumption | omega) hft (by first | assumption | omega) (by first | assumption | omega)) (cwV 1 hts (lw_V q1883 q1885 qs50 q105 q1886) rfl rfl rfl (by decide +kernel) ⟨Nat.le_of_ble_eq_true rfl, Nat.le_of_ble_eq_true rfl⟩) hK hZ hA hP hD hS [0, 1, 2, 3, 4, 5, 6, 7, 8, 9] [] rfl rfl (by decide) (by decide) (by decide) 0 4 rfl rfl rfl hl.1 (Nat.le_of_ble_eq_true rfl) ⟨Nat.le_of_ble_eq_true rfl, Nat.le_of_ble_eq_true rfl⟩ rfl dX5_steps_65 (fun r9 u9 H locs hw9 hP hD hS => ?_)
        obtain ⟨tr1_5, mv1_5⟩ := u9
        obtain ⟨hr9, hw65⟩ := hw9
        subst hr9
        have hw65 : ∀ q, q < nr * nc → tr1_5 q = tn nr nc (ftN nr nc pB pL pG (awZ nr nc pL pG pB - 1)) pL q - 97 := hw65
        have hP : va_P G.1 CL (MW G mh md nr nc (tn nr nc (ftN nr nc pB pL pG (awZ nr nc pL pG pB - 1)) pL) pG pB (turnK nr nc pL pG pk (ftN nr nc pB pL pG (awZ nr nc pL pG pB - 1))) bf hi sv ch hs inp ty er wy wd rf lt ln th tr1_5 mv1_5 fo1_4 sp wr td) _ := hP
        have hD : va_D A (MW G mh md nr nc (tn nr nc (ftN nr nc pB pL pG (awZ nr nc pL pG pB - 1)) pL) pG pB (turnK nr nc pL pG pk (ftN nr nc pB pL pG (awZ nr nc pL pG pB - 1))) bf hi sv ch hs inp ty er wy wd rf lt ln th tr1_5 mv1_5 fo1_4 sp wr td) := hD
        refine lv_istore_n (lv' := [(1, .int (nI (hm nr nc (tn nr nc (ftN nr nc pB pL pG (awZ nr nc pL pG pB - 1)) pL) pG))), (2, .int (nI (ftN nr nc pB pL pG (awZ nr nc pL pG pB - 1)))), (0, .ref mh)]) hx hb dX5_steps_68 rfl hl (by decide) rfl (fun ls hl => ?_)
        refine lv_aload_n hx hb dX5_steps_69 rfl (lv_at hl 2 rfl) ?_
        refine va_get (D := G.1) (ci := 4) (v := .ref (md 0)) (C := RX5) (T := TX5) (N := 21) hx hb hts in_X5 hown hK hP 0 rfl rfl 0 (by decide) (hts _ q1727) (fun _ h9 => h9) rfl dX5_steps_70 ?_
        refine lv_iconst (v := nI 5) hx hb dX5_steps_73 (by decide) ?_
        refine lv_dup2_11 hx hb dX5_steps_74 rfl rfl ?_
        refine r_iald hx hb hK hP 1 3 rfl rfl (by omega) (by decide) dX5_steps_75 ?_
        refine eq_i (y := ((turnK nr nc pL pG pk (ftN nr nc pB pL pG (awZ nr nc pL pG pB - 1))) 3)) rfl ?_
        refine lv_iconst (v := nI 1) hx hb dX5_steps_76 (by decide) ?_
        refine lv_iadd hx hb dX5_steps_77 ?_
        refine r_iast hx hb hK hP hD hS 1 3 rfl rfl (by omega) (by decide) dX5_steps_78 (fun H locs hP hD hS => ?_)
        rw [show va_up (gZ (nr, nc, (tn nr nc (ftN nr nc pB pL pG (awZ nr nc pL pG pB - 1)) pL), pG, pB, (turnK nr nc pL pG pk (ftN nr nc pB pL pG (awZ nr nc pL pG pB - 1))))) 5 (((turnK nr nc pL pG pk (ftN nr nc pB pL pG (awZ nr nc pL pG pB - 1))) 3) + (nI 1)) = (gZ (nr, nc, (tn nr nc (ftN nr nc pB pL pG (awZ nr nc pL pG pB - 1)) pL), pG, pB, (va_up (turnK nr nc pL pG pk (ftN nr nc pB pL pG (awZ nr nc pL pG pB - 1))) 3 (((turnK nr nc pL pG pk (ftN nr nc pB pL pG (awZ nr nc pL pG pB - 1))) 3) + (nI 1))))) from (gZ_sk (j := 3) (by decide))] at hP hD
        have hP : va_P G.1 CL (MW G mh md nr nc (tn nr nc (ftN nr nc pB pL pG (awZ nr nc pL pG pB - 1)) pL) pG pB (va_up (turnK nr nc pL pG pk (ftN nr nc pB pL pG (awZ nr nc pL pG pB - 1))) 3 (((turnK nr nc pL pG pk (ftN nr nc pB pL pG (awZ nr nc pL pG pB - 1))) 3) + (nI 1))) bf hi sv ch hs inp ty er wy wd rf lt ln th tr1_5 mv1_5 fo1_4 sp wr td) _ := hP
        have hD : va_D A (MW G mh md nr nc (tn nr nc (ftN nr nc pB pL pG (awZ nr nc pL pG pB - 1)) pL) pG pB (va_up (turnK nr nc pL pG pk (ftN nr nc pB pL pG (awZ nr nc pL pG pB - 1))) 3 (((turnK nr nc pL pG pk (ftN nr nc pB pL pG (awZ nr nc pL pG pB - 1))) 3) + (nI 1))) bf hi sv ch hs inp ty er wy wd rf lt ln th tr1_5 mv1_5 fo1_4 sp wr td) := hD
        refine lv_aload_n hx hb dX5_steps_79 rfl (lv_at hl 2 rfl) ?_
        refine lv_iload_n hx hb dX5_steps_80 rfl (lv_at hl 1 rfl) ?_
        refine callVi (As := [.int (nI (ftN nr nc pB pL pG (awZ nr nc pL pG pB - 1)))]) (rest := []) (wc := (MW G mh md nr nc (tn nr nc (ftN nr nc pB pL pG (awZ nr nc pL pG pB - 1)) pL) pG pB (va_up (turnK nr nc pL pG pk (ftN nr nc pB pL pG (awZ nr nc pL pG pB - 1))) 3 (((turnK nr nc pL pG pk (ftN nr nc pB pL pG (awZ nr nc pL pG pB - 1))) 3) + (nI 1))) bf hi sv ch hs inp ty er wy wd rf lt ln th tr1_5 mv1_5 fo1_4 sp wr td)) (wr := ([] : va_W)) ⟨hx, hb, hml, hown, hts⟩ (m_X5_done l G mh md nr nc (tn nr nc (ftN nr nc pB pL pG (awZ nr nc pL pG pB - 1)) pL) pG pB (va_up (turnK nr nc pL pG pk (ftN nr nc pB pL pG (awZ nr nc pL pG pB - 1))) 3 (((turnK nr nc pL pG pk (ftN nr nc pB pL pG (awZ nr nc pL pG pB - 1))) 3) + (nI 1))) bf hi sv ch hs inp ty er wy wd rf lt ln th tr1_5 mv1_5 fo1_4 sp wr td (nI (ftN nr nc pB pL pG (awZ nr nc pL pG pB - 1))) ) (cwV 1 hts (lw_V q1821 q1823 qs39 q105 q1824) rfl rfl rfl (by decide +kernel) ⟨Nat.le_of_ble_eq_true rfl, Nat.le_of_ble_eq_true rfl⟩) hK hZ hA hP hD hS [0, 1, 2, 3, 4, 5, 6, 7, 8, 9] [] rfl rfl (by decide) (by decide) (by decide) 0 4 rfl rfl rfl hl.1 (Nat.le_of_ble_eq_true rfl) ⟨Nat.le_of_ble_eq_true rfl, Nat.le_of_ble_eq_true rfl⟩ rfl dX5_steps_81 (fun r9 u9 H locs hw9 hP hD hS => ?_)
        subst hw9
        have hP : va_P G.1 CL (MW G mh md nr nc (tn nr nc (ftN nr nc pB pL pG (awZ nr nc pL pG pB - 1)) pL) pG pB (va_up (turnK nr nc pL pG pk (ftN nr nc pB pL pG (awZ nr nc pL pG pB - 1))) 3 (((turnK nr nc pL pG pk (ftN nr nc pB pL pG (awZ nr nc pL pG pB - 1))) 3) + (nI 1))) bf hi sv ch hs inp ty er wy wd rf lt ln (nI 0) tr1_5 mv1_5 fo1_4 sp wr td) _ := hP
        have hD : va_D A (MW G mh md nr nc (tn nr nc (ftN nr nc pB pL pG (awZ nr nc pL pG pB - 1)) pL) pG pB (va_up (turnK nr nc pL pG pk (ftN nr nc pB pL pG (awZ nr nc pL pG pB - 1))) 3 (((turnK nr nc pL pG pk (ftN nr nc pB pL pG (awZ nr nc pL pG pB - 1))) 3) + (nI 1))) bf hi sv ch hs inp ty er wy wd rf lt ln (nI 0) tr1_5 mv1_5 fo1_4 sp wr td) := hD
        subst hQ
        rw [show oStep (nr, nc, pL, pG, pB, pk) = (0, (nr, nc, (tn nr nc (ftN nr nc pB pL pG (awZ nr nc pL pG pB - 1)) pL), pG, pB, (va_up (turnK nr nc pL pG pk (ftN nr nc pB pL pG (awZ nr nc pL pG pB - 1))) 3 (((turnK nr nc pL pG pk (ftN nr nc pB pL pG (awZ nr nc pL pG pB - 1))) 3) + (nI 1)))), (nI (ftN nr nc pB pL pG (awZ nr nc pL pG pB - 1))), none) from (by unfold oStep; rw [if_neg c10, if_neg (by rw [c28]; decide), if_neg (show ¬ awN (rchZ (nr, nc, pL, pG, pB, pk)) = 4 from h49)]; rfl)]
        exact ret_i hx hb hr hlk (⟨tr1_5, mv1_5, fo1_4⟩) rfl hP hD hS rfl dX5_steps_84
      · skip
        have h49 : awZ nr nc pL pG pB = 4 := by rw [oN_m1 (by decide)] at c49; omega
        refine lv_aload_n hx hb dX5_steps_52 rfl (lv_at hl 1 rfl) ?_
        refine lv_iconst (v := nI 2) hx hb dX5_steps_53 (by decide) ?_
        refine callVi (As := [.int (nI 2)]) (rest := []) (wc := (MW G mh md nr nc pL pG pB pk bf hi sv ch hs inp ty er wy wd rf lt ln th tr1_4 mv1_4 fo1_4 sp wr td)) (wr := ([] : va_W)) ⟨hx, hb, hml, hown, hts⟩ (m_X5_fails l G mh md nr nc pL pG pB pk bf hi sv ch hs inp ty er wy wd rf lt ln th tr1_4 mv1_4 fo1_4 sp wr td (nI 2) ) (cwV 1 hts (lw_V q1813 q1815 qs37 q105 q1816) rfl rfl rfl (by decide +kernel) ⟨Nat.le_of_ble_eq_true rfl, Nat.le_of_ble_eq_true rfl⟩) hK hZ hA hP hD hS [0, 1, 2, 3, 4, 5, 6, 7, 8, 9] [] rfl rfl (by decide) (by decide) (by decide) 0 4 rfl rfl rfl hl.1 (Nat.le_of_ble_eq_true rfl) ⟨Nat.le_of_ble_eq_true rfl, Nat.le_of_ble_eq_true rfl⟩ rfl dX5_steps_54 (fun r9 u9 H locs hw9 hP hD hS => ?_)
        subst hw9
        have hP : va_P G.1 CL (MW G mh md nr nc pL pG pB pk bf hi sv ch hs inp ty er wy wd false lt ln (nI 2) tr1_4 mv1_4 fo1_4 sp wr td) _ := hP
        have hD : va_D A (MW G mh md nr nc pL pG pB pk bf hi sv ch hs inp ty er wy wd false lt ln (nI 2) tr1_4 mv1_4 fo1_4 sp wr td) := hD
        subst hQ
        rw [show oStep (nr, nc, pL, pG, pB, pk) = (2, (nr, nc, pL, pG, pB, pk), nI 0, none) from (by unfold oStep; rw [if_neg c10, if_neg (by rw [c28]; decide), if_pos (show awN (rchZ (nr, nc, pL, pG, pB, pk)) = 4 from h49)]; done)]
        exact ret_i hx hb hr hlk (⟨tr1_4, mv1_4, fo1_4⟩) rfl hP hD hS rfl dX5_steps_57
    · skip
      refine lv_aload_n hx hb dX5_steps_31 rfl (lv_at hl 1 rfl) ?_
      refine lv_iconst (v := nI 4) hx hb dX5_steps_32 (by decide) ?_
      refine lv_aload_n hx hb dX5_steps_33 rfl (lv_at hl 1 rfl) ?_
      refine callVi (As := []) (rest := [.int (nI 4), .ref mh]) (wc := (MW G mh md nr nc pL pG pB pk bf hi sv ch hs inp ty er wy wd rf lt ln th tr1_1 mv1_3 fo sp wr td)) (wr := ([] : va_W)) ⟨hx, hb, hml, hown, hts⟩ (m_X5_places l G mh md nr nc pL pG pB pk bf hi sv ch hs inp ty er wy wd rf lt ln th tr1_1 mv1_3 fo sp wr td ) (cwV 0 hts (lw_V q1817 q1819 qs38 q105 q1820) rfl rfl rfl (by decide +kernel) ⟨Nat.le_of_ble_eq_true rfl, Nat.le_of_ble_eq_true rfl⟩) hK hZ hA hP hD hS [0, 1, 2, 3, 4, 5, 6, 7, 8, 9] [] rfl rfl (by decide) (by decide) (by decide) 0 4 rfl rfl rfl hl.1 (Nat.le_of_ble_eq_true rfl) ⟨Nat.le_of_ble_eq_true rfl, Nat.le_of_ble_eq_true rfl⟩ rfl dX5_steps_34 (fun r9 u9 H locs hw9 hP hD hS => ?_)
      subst hw9
      have hP : va_P G.1 CL (MW G mh md nr nc pL pG pB pk bf hi sv ch hs inp ty er wy wd rf lt ln th tr1_1 mv1_3 fo sp wr td) _ := hP
      have hD : va_D A (MW G mh md nr nc pL pG pB pk bf hi sv ch hs inp ty er wy wd rf lt ln th tr1_1 mv1_3 fo sp wr td) := hD
      refine lv_iload_n hx hb dX5_steps_37 rfl (lv_at hl 0 rfl) ?_
      refine n_isub hx hb (by have := hm_le nr nc pL pG; omega) dX5_steps_38 ?_
      refine lv_iconst (v := nI 1) hx hb dX5_steps_39 (by decide) ?_
      refine callVi (As := [.int (nI 4), .int (nI ((nr * nc) - (hm nr nc pL pG))), .int (nI 1)]) (rest := []) (wc := (MW G mh md nr nc pL pG pB pk bf hi sv ch hs inp ty er wy wd rf lt ln th tr1_1 mv1_3 fo sp wr td)) (wr := ([] : va_W)) ⟨hx, hb, hml, hown, hts⟩ (m_X5_refused l G mh md nr nc pL pG pB pk bf hi sv ch hs inp ty er wy wd rf lt ln th tr1_1 mv1_3 fo sp wr td (nI 4) (nI ((nr * nc) - (hm nr nc pL pG))) (nI 1) ) (cwV 3 hts (lw_V q1848 q1850 qs44 q105 q1851) rfl rfl rfl (by decide +kernel) ⟨Nat.le_of_ble_eq_true rfl, Nat.le_of_ble_eq_true rfl⟩) hK hZ hA hP hD hS [0, 1, 2, 3, 4, 5, 6, 7, 8, 9] [] rfl rfl (by decide) (by decide) (by decide) 0 4 rfl rfl rfl hl.1 (Nat.le_of_ble_eq_true rfl) ⟨Nat.le_of_ble_eq_true rfl, Nat.le_of_ble_eq_true rfl⟩ rfl dX5_steps_40 (fun r9 u9 H locs hw9 hP hD hS => ?_)
      subst hw9
      have hP : va_P G.1 CL (MW G mh md nr nc pL pG pB pk bf hi sv ch hs inp ty er (nI 4) (nI ((nr * nc) - (hm nr nc pL pG))) true lt ln (nI 1) tr1_1 mv1_3 fo sp wr td) _ := hP
      have hD : va_D A (MW G mh md nr nc pL pG pB pk bf hi sv ch hs inp ty er (nI 4) (nI ((nr * nc) - (hm nr nc pL pG))) true lt ln (nI 1) tr1_1 mv1_3 fo sp wr td) := hD
      subst hQ
      rw [show oStep (nr, nc, pL, pG, pB, pk) = (1, (nr, nc, pL, pG, pB, pk), nI 0, some ((nI 4), (nI ((nr * nc) - (hm nr nc pL pG))))) from (by unfold oStep; rw [if_neg c10, if_pos c28])]
      exact ret_i hx hb hr hlk (⟨tr1_1, mv1_3, fo⟩) rfl hP hD hS rfl dX5_steps_43
  · skip
    refine lv_aload_n hx hb dX5_steps_13 rfl (lv_at hl 1 rfl) ?_
    refine lv_iconst (v := nI 5) hx hb dX5_steps_14 (by decide) ?_
    refine lv_aload_n hx hb dX5_steps_15 rfl (lv_at hl 1 rfl) ?_
    refine callVi (As := []) (rest := [.int (nI 5), .ref mh]) (wc := (MW G mh md nr nc pL pG pB pk bf hi sv ch hs inp ty er wy wd rf lt ln th tr1_1 mv fo sp wr td)) (wr := ([] : va_W)) ⟨hx, hb, hml, hown, hts⟩ (m_X5_places l G mh md nr nc pL pG pB pk bf hi sv ch hs inp ty er wy wd rf lt ln th tr1_1 mv fo sp wr td ) (cwV 0 hts (lw_V q1817 q1819 qs38 q105 q1820) rfl rfl rfl (by decide +kernel) ⟨Nat.le_of_ble_eq_true rfl, Nat.le_of_ble_eq_true rfl⟩) hK hZ hA hP hD hS [0, 1, 2, 3, 4, 5, 6, 7, 8, 9] [] rfl rfl (by decide) (by decide) (by decide) 0 4 rfl rfl rfl hl.1 (Nat.le_of_ble_eq_true rfl) ⟨Nat.le_of_ble_eq_true rfl, Nat.le_of_ble_eq_true rfl⟩ rfl dX5_steps_16 (fun r9 u9 H locs hw9 hP hD hS => ?_)
    subst hw9
    have hP : va_P G.1 CL (MW G mh md nr nc pL pG pB pk bf hi sv ch hs inp ty er wy wd rf lt ln th tr1_1 mv fo sp wr td) _ := hP
    have hD : va_D A (MW G mh md nr nc pL pG pB pk bf hi sv ch hs inp ty er wy wd rf lt ln th tr1_1 mv fo sp wr td) := hD
    refine lv_iconst (v := nI 1) hx hb dX5_steps_19 (by decide) ?_
    refine callVi (As := [.int (nI 5), .int (nI (nr * nc)), .int (nI 1)]) (rest := []) (wc := (MW G mh md nr nc pL pG pB pk bf hi sv ch hs inp ty er wy wd rf lt ln th tr1_1 mv fo sp wr td)) (wr := ([] : va_W)) ⟨hx, hb, hml, hown, hts⟩ (m_X5_refused l G mh md nr nc pL pG pB pk bf hi sv ch hs inp ty er wy wd rf lt ln th tr1_1 mv fo sp wr td (nI 5) (nI (nr * nc)) (nI 1) ) (cwV 3 hts (lw_V q1848 q1850 qs44 q105 q1851) rfl rfl rfl (by decide +kernel) ⟨Nat.le_of_ble_eq_true rfl, Nat.le_of_ble_eq_true rfl⟩) hK hZ hA hP hD hS [0, 1, 2, 3, 4, 5, 6, 7, 8, 9] [] rfl rfl (by decide) (by decide) (by decide) 0 4 rfl rfl rfl hl.1 (Nat.le_of_ble_eq_true rfl) ⟨Nat.le_of_ble_eq_true rfl, Nat.le_of_ble_eq_true rfl⟩ rfl dX5_steps_20 (fun r9 u9 H locs hw9 hP hD hS => ?_)
    subst hw9
    have hP : va_P G.1 CL (MW G mh md nr nc pL pG pB pk bf hi sv ch hs inp ty er (nI 5) (nI (nr * nc)) true lt ln (nI 1) tr1_1 mv fo sp wr td) _ := hP
    have hD : va_D A (MW G mh md nr nc pL pG pB pk bf hi sv ch hs inp ty er (nI 5) (nI (nr * nc)) true lt ln (nI 1) tr1_1 mv fo sp wr td) := hD
    subst hQ
    rw [show oStep (nr, nc, pL, pG, pB, pk) = (1, (nr, nc, pL, pG, pB, pk), nI 0, some ((nI 5), (nI (nr * nc)))) from (by unfold oStep; rw [if_pos c10])]
    exact ret_i hx hb hr hlk (⟨tr1_1, mv, fo⟩) rfl hP hD hS rfl dX5_steps_23
set_option maxHeartbeats 4000000 in
set_option maxRecDepth 100000 in
theorem m_X5_step (l : Launch) (G : GG) (mh : Nat) (md : Nat → Nat) (nr : Nat) (nc : Nat) (pL : Nat → Nat) (pG : Nat → Nat) (pB : Nat → Bool) (pk : Nat → Int32) (bf : Nat → Int32) (hi : Nat → Int32) (sv : Nat → Int32) (ch : Nat) (hs : Bool) (inp : Nat → Nat) (ty : Nat) (er : Int32) (wy : Int32) (wd : Int32) (rf : Bool) (lt : Nat → Nat) (ln : Nat) (th : Int32) (tr : Nat → Nat) (mv : Nat → Nat) (fo : Int32) (sp : Nat) (wr : Bool) (td : Nat → Int32) (zl : List ZT) (hd : 2 ≤ nr ∧ nr ≤ 3 ∧ 2 ≤ nc ∧ nc ≤ 3) (hLR : ∀ q, q < nr * nc → 97 ≤ pL q ∧ pL q ≤ 108) (hKR : ∀ q, q < nr * nc → pG q = 46 ∨ (97 ≤ pG q ∧ pG q ≤ 108)) (hH : HistA hi zl ch) : MM l G yX5_step cX5_step 1 (some .int) ⟨5, 0, 0, 272⟩ [.ref mh] (MW G mh md nr nc pL pG pB pk bf hi sv ch hs inp ty er wy wd rf lt ln th tr mv fo sp wr td) (Qi_ G (fun (r : Int32) (u : (Nat → Int32) × (Nat) × (Nat → Nat) × (Nat → Nat) × (Int32)) => (r = (oStep (nr, nc, pL, pG, pB, pk)).2.2.1) ∧ (HistA u.1 (oH (oStep (nr, nc, pL, pG, pB, pk)) zl (nr, nc, pL, pG, pB, pk)) u.2.1)) (fun (u : (Nat → Int32) × (Nat) × (Nat → Nat) × (Nat → Nat) × (Int32)) => (MW G mh md ((oStep (nr, nc, pL, pG, pB, pk)).2.1.1) ((oStep (nr, nc, pL, pG, pB, pk)).2.1.2.1) ((oStep (nr, nc, pL, pG, pB, pk)).2.1.2.2.1) ((oStep (nr, nc, pL, pG, pB, pk)).2.1.2.2.2.1) ((oStep (nr, nc, pL, pG, pB, pk)).2.1.2.2.2.2.1) ((oStep (nr, nc, pL, pG, pB, pk)).2.1.2.2.2.2.2) (gZ (nr, nc, pL, pG, pB, pk)) u.1 sv u.2.1 hs inp ty er (oWy (oStep (nr, nc, pL, pG, pB, pk)) wy) (oWd (oStep (nr, nc, pL, pG, pB, pk)) wd) (oRf (oStep (nr, nc, pL, pG, pB, pk)) rf) lt ln (nI (oStep (nr, nc, pL, pG, pB, pk)).1) u.2.2.1 u.2.2.2.1 u.2.2.2.2 sp wr td))) := by
  refine MM.of (by decide) (Nat.le_of_ble_eq_true rfl) ?_
  intro p e s m args below meth cd A C hini hA hK hZ hP hD ls hl
  generalize hQ : MQ below ((Qi_ G (fun (r : Int32) (u : (Nat → Int32) × (Nat) × (Nat → Nat) × (Nat → Nat) × (Int32)) => (r = (oStep (nr, nc, pL, pG, pB, pk)).2.2.1) ∧ (HistA u.1 (oH (oStep (nr, nc, pL, pG, pB, pk)) zl (nr, nc, pL, pG, pB, pk)) u.2.1)) (fun (u : (Nat → Int32) × (Nat) × (Nat → Nat) × (Nat → Nat) × (Int32)) => (MW G mh md ((oStep (nr, nc, pL, pG, pB, pk)).2.1.1) ((oStep (nr, nc, pL, pG, pB, pk)).2.1.2.1) ((oStep (nr, nc, pL, pG, pB, pk)).2.1.2.2.1) ((oStep (nr, nc, pL, pG, pB, pk)).2.1.2.2.2.1) ((oStep (nr, nc, pL, pG, pB, pk)).2.1.2.2.2.2.1) ((oStep (nr, nc, pL, pG, pB, pk)).2.1.2.2.2.2.2) (gZ (nr, nc, pL, pG, pB, pk)) u.1 sv u.2.1 hs inp ty er (oWy (oStep (nr, nc, pL, pG, pB, pk)) wy) (oWd (oStep (nr, nc, pL, pG, pB, pk)) wd) (oRf (oStep (nr, nc, pL, pG, pB, pk)) rf) lt ln (nI (oStep (nr, nc, pL, pG, pB, pk)).1) u.2.2.1 u.2.2.2.1 u.2.2.2.2 sp wr td))) A) args s (⟨5, 0, 0, 272⟩ : Room).cells (⟨5, 0, 0, 272⟩ : Room).slots A = Q
  obtain ⟨hx, hb, hr, hts, hown, hlk, hml⟩ := C
  have hown : s.vm.findClass RX5 = some m.cls := hown
  have hS : va_S A s.heap s.heap [] := va_S.rf
  have hl : lv_has ls 1 [(0, .ref mh)] := hl
  have hmu := dm_mul hd
  refine lv_aload_n hx hb dX5_step_0 rfl (lv_at hl 0 rfl) ?_
  refine callVv (As := []) (rest := []) (wc := (MW G mh md nr nc pL pG pB pk bf hi sv ch hs inp ty er wy wd rf lt ln th tr mv fo sp wr td)) (wr := ([] : va_W)) ⟨hx, hb, hml, hown, hts⟩ (m_X5_looksBack l G mh md nr nc pL pG pB pk bf hi sv ch hs inp ty er wy wd rf lt ln th tr mv fo sp wr td ) (cwV 0 hts (lw_V q1799 q1801 qs35 q105 q1802) rfl rfl rfl (by decide +kernel) ⟨Nat.le_of_ble_eq_true rfl, Nat.le_of_ble_eq_true rfl⟩) hK hZ hA hP hD hS [0, 1, 2, 3, 4, 5, 6, 7, 8, 9] [] rfl rfl (by decide) (by decide) (by decide) 0 4 rfl rfl rfl hl.1 (Nat.le_of_ble_eq_true rfl) ⟨Nat.le_of_ble_eq_true rfl, Nat.le_of_ble_eq_true rfl⟩ rfl dX5_step_1 (fun u9 H locs hw9 hP hD hS => ?_)
  have hP : va_P G.1 CL (MW G mh md nr nc pL pG pB pk (gZ (nr, nc, pL, pG, pB, pk)) hi sv ch hs inp ty er wy wd rf lt ln th tr mv fo sp wr td) _ := hP
  have hD : va_D A (MW G mh md nr nc pL pG pB pk (gZ (nr, nc, pL, pG, pB, pk)) hi sv ch hs inp ty er wy wd rf lt ln th tr mv fo sp wr td) := hD
  refine lv_aload_n hx hb dX5_step_4 rfl (lv_at hl 0 rfl) ?_
  refine lv_aload_n hx hb dX5_step_5 rfl (lv_at hl 0 rfl) ?_
  refine callVi (As := []) (rest := [.ref mh]) (wc := (MW G mh md nr nc pL pG pB pk (gZ (nr, nc, pL, pG, pB, pk)) hi sv ch hs inp ty er wy wd rf lt ln th tr mv fo sp wr td)) (wr := ([] : va_W)) ⟨hx, hb, hml, hown, hts⟩ (m_X5_steps l G mh md nr nc pL pG pB pk (gZ (nr, nc, pL, pG, pB, pk)) hi sv ch hs inp ty er wy wd rf lt ln th tr mv fo sp wr td (by first | assumption | omega) (by first | assumption | omega) (by first | assumption | omega)) (cwV 0 hts (lw_V q1991 q1993 qs69 q105 q1994) rfl rfl rfl (by decide +kernel) ⟨Nat.le_of_ble_eq_true rfl, Nat.le_of_ble_eq_true rfl⟩) hK hZ hA hP hD hS [0, 1, 2, 3, 4, 5, 6, 7, 8, 9] [] rfl rfl (by decide) (by decide) (by decide) 0 4 rfl rfl rfl hl.1 (Nat.le_of_ble_eq_true rfl) ⟨Nat.le_of_ble_eq_true rfl, Nat.le_of_ble_eq_true rfl⟩ rfl dX5_step_6 (fun r9 u9 H locs hw9 hP hD hS => ?_)
  obtain ⟨tr1_2, mv1_2, fo1_2⟩ := u9
  subst hw9
  have hP : va_P G.1 CL (MW G mh md ((oStep (nr, nc, pL, pG, pB, pk)).2.1.1) ((oStep (nr, nc, pL, pG, pB, pk)).2.1.2.1) ((oStep (nr, nc, pL, pG, pB, pk)).2.1.2.2.1) ((oStep (nr, nc, pL, pG, pB, pk)).2.1.2.2.2.1) ((oStep (nr, nc, pL, pG, pB, pk)).2.1.2.2.2.2.1) ((oStep (nr, nc, pL, pG, pB, pk)).2.1.2.2.2.2.2) (gZ (nr, nc, pL, pG, pB, pk)) hi sv ch hs inp ty er (oWy (oStep (nr, nc, pL, pG, pB, pk)) wy) (oWd (oStep (nr, nc, pL, pG, pB, pk)) wd) (oRf (oStep (nr, nc, pL, pG, pB, pk)) rf) lt ln (nI (oStep (nr, nc, pL, pG, pB, pk)).1) tr1_2 mv1_2 fo1_2 sp wr td) _ := hP
  have hD : va_D A (MW G mh md ((oStep (nr, nc, pL, pG, pB, pk)).2.1.1) ((oStep (nr, nc, pL, pG, pB, pk)).2.1.2.1) ((oStep (nr, nc, pL, pG, pB, pk)).2.1.2.2.1) ((oStep (nr, nc, pL, pG, pB, pk)).2.1.2.2.2.1) ((oStep (nr, nc, pL, pG, pB, pk)).2.1.2.2.2.2.1) ((oStep (nr, nc, pL, pG, pB, pk)).2.1.2.2.2.2.2) (gZ (nr, nc, pL, pG, pB, pk)) hi sv ch hs inp ty er (oWy (oStep (nr, nc, pL, pG, pB, pk)) wy) (oWd (oStep (nr, nc, pL, pG, pB, pk)) wd) (oRf (oStep (nr, nc, pL, pG, pB, pk)) rf) lt ln (nI (oStep (nr, nc, pL, pG, pB, pk)).1) tr1_2 mv1_2 fo1_2 sp wr td) := hD
  by_cases hk9 : (oStep (nr, nc, pL, pG, pB, pk)).1 = 0
  · skip
    refine callVi (As := [.int ((oStep (nr, nc, pL, pG, pB, pk)).2.2.1)]) (rest := []) (wc := (MW G mh md ((oStep (nr, nc, pL, pG, pB, pk)).2.1.1) ((oStep (nr, nc, pL, pG, pB, pk)).2.1.2.1) ((oStep (nr, nc, pL, pG, pB, pk)).2.1.2.2.1) ((oStep (nr, nc, pL, pG, pB, pk)).2.1.2.2.2.1) ((oStep (nr, nc, pL, pG, pB, pk)).2.1.2.2.2.2.1) ((oStep (nr, nc, pL, pG, pB, pk)).2.1.2.2.2.2.2) (gZ (nr, nc, pL, pG, pB, pk)) hi sv ch hs inp ty er (oWy (oStep (nr, nc, pL, pG, pB, pk)) wy) (oWd (oStep (nr, nc, pL, pG, pB, pk)) wd) (oRf (oStep (nr, nc, pL, pG, pB, pk)) rf) lt ln (nI (oStep (nr, nc, pL, pG, pB, pk)).1) tr1_2 mv1_2 fo1_2 sp wr td)) (wr := ([] : va_W)) ⟨hx, hb, hml, hown, hts⟩ (m_X5_kept__0 l G mh md ((oStep (nr, nc, pL, pG, pB, pk)).2.1.1) ((oStep (nr, nc, pL, pG, pB, pk)).2.1.2.1) ((oStep (nr, nc, pL, pG, pB, pk)).2.1.2.2.1) ((oStep (nr, nc, pL, pG, pB, pk)).2.1.2.2.2.1) ((oStep (nr, nc, pL, pG, pB, pk)).2.1.2.2.2.2.1) ((oStep (nr, nc, pL, pG, pB, pk)).2.1.2.2.2.2.2) hi sv ch hs inp ty er (oWy (oStep (nr, nc, pL, pG, pB, pk)) wy) (oWd (oStep (nr, nc, pL, pG, pB, pk)) wd) (oRf (oStep (nr, nc, pL, pG, pB, pk)) rf) lt ln (nI (oStep (nr, nc, pL, pG, pB, pk)).1) tr1_2 mv1_2 fo1_2 sp wr td ((oStep (nr, nc, pL, pG, pB, pk)).2.2.1) (nr, nc, pL, pG, pB, pk) zl (by rw [hk9]; exact nI_0) hH) (cwV 1 hts (lw_V q1825 q1827 qs40 q105 q1828) rfl rfl rfl (by decide +kernel) ⟨Nat.le_of_ble_eq_true rfl, Nat.le_of_ble_eq_true rfl⟩) hK hZ hA hP hD hS [0, 1, 2, 3, 4, 5, 6, 7, 8, 9] [] rfl rfl (by decide) (by decide) (by decide) 0 4 rfl rfl rfl hl.1 (Nat.le_of_ble_eq_true rfl) ⟨Nat.le_of_ble_eq_true rfl, Nat.le_of_ble_eq_true rfl⟩ rfl dX5_step_9 (fun r9 u9 H locs hw9 hP hD hS => ?_)
    obtain ⟨hi1_3, ch1_3⟩ := u9
    obtain ⟨hr9, hw9⟩ := hw9
    subst hr9
    have hw9 : HistA hi1_3 (pushH zl (nr, nc, pL, pG, pB, pk)) ch1_3 := hw9
    have hP : va_P G.1 CL (MW G mh md ((oStep (nr, nc, pL, pG, pB, pk)).2.1.1) ((oStep (nr, nc, pL, pG, pB, pk)).2.1.2.1) ((oStep (nr, nc, pL, pG, pB, pk)).2.1.2.2.1) ((oStep (nr, nc, pL, pG, pB, pk)).2.1.2.2.2.1) ((oStep (nr, nc, pL, pG, pB, pk)).2.1.2.2.2.2.1) ((oStep (nr, nc, pL, pG, pB, pk)).2.1.2.2.2.2.2) (gZ (nr, nc, pL, pG, pB, pk)) hi1_3 sv ch1_3 hs inp ty er (oWy (oStep (nr, nc, pL, pG, pB, pk)) wy) (oWd (oStep (nr, nc, pL, pG, pB, pk)) wd) (oRf (oStep (nr, nc, pL, pG, pB, pk)) rf) lt ln (nI (oStep (nr, nc, pL, pG, pB, pk)).1) tr1_2 mv1_2 fo1_2 sp wr td) _ := hP
    have hD : va_D A (MW G mh md ((oStep (nr, nc, pL, pG, pB, pk)).2.1.1) ((oStep (nr, nc, pL, pG, pB, pk)).2.1.2.1) ((oStep (nr, nc, pL, pG, pB, pk)).2.1.2.2.1) ((oStep (nr, nc, pL, pG, pB, pk)).2.1.2.2.2.1) ((oStep (nr, nc, pL, pG, pB, pk)).2.1.2.2.2.2.1) ((oStep (nr, nc, pL, pG, pB, pk)).2.1.2.2.2.2.2) (gZ (nr, nc, pL, pG, pB, pk)) hi1_3 sv ch1_3 hs inp ty er (oWy (oStep (nr, nc, pL, pG, pB, pk)) wy) (oWd (oStep (nr, nc, pL, pG, pB, pk)) wd) (oRf (oStep (nr, nc, pL, pG, pB, pk)) rf) lt ln (nI (oStep (nr, nc, pL, pG, pB, pk)).1) tr1_2 mv1_2 fo1_2 sp wr td) := hD
    subst hQ
    exact ret_i hx hb hr hlk (⟨hi1_3, ch1_3, tr1_2, mv1_2, fo1_2⟩) ⟨rfl, (by rw [oH, if_pos hk9]; exact hw9)⟩ hP hD hS rfl dX5_step_12
  · skip
    refine callVi (As := [.int ((oStep (nr, nc, pL, pG, pB, pk)).2.2.1)]) (rest := []) (wc := (MW G mh md ((oStep (nr, nc, pL, pG, pB, pk)).2.1.1) ((oStep (nr, nc, pL, pG, pB, pk)).2.1.2.1) ((oStep (nr, nc, pL, pG, pB, pk)).2.1.2.2.1) ((oStep (nr, nc, pL, pG, pB, pk)).2.1.2.2.2.1) ((oStep (nr, nc, pL, pG, pB, pk)).2.1.2.2.2.2.1) ((oStep (nr, nc, pL, pG, pB, pk)).2.1.2.2.2.2.2) (gZ (nr, nc, pL, pG, pB, pk)) hi sv ch hs inp ty er (oWy (oStep (nr, nc, pL, pG, pB, pk)) wy) (oWd (oStep (nr, nc, pL, pG, pB, pk)) wd) (oRf (oStep (nr, nc, pL, pG, pB, pk)) rf) lt ln (nI (oStep (nr, nc, pL, pG, pB, pk)).1) tr1_2 mv1_2 fo1_2 sp wr td)) (wr := ([] : va_W)) ⟨hx, hb, hml, hown, hts⟩ (m_X5_kept__t l G mh md ((oStep (nr, nc, pL, pG, pB, pk)).2.1.1) ((oStep (nr, nc, pL, pG, pB, pk)).2.1.2.1) ((oStep (nr, nc, pL, pG, pB, pk)).2.1.2.2.1) ((oStep (nr, nc, pL, pG, pB, pk)).2.1.2.2.2.1) ((oStep (nr, nc, pL, pG, pB, pk)).2.1.2.2.2.2.1) ((oStep (nr, nc, pL, pG, pB, pk)).2.1.2.2.2.2.2) hi sv ch hs inp ty er (oWy (oStep (nr, nc, pL, pG, pB, pk)) wy) (oWd (oStep (nr, nc, pL, pG, pB, pk)) wd) (oRf (oStep (nr, nc, pL, pG, pB, pk)) rf) lt ln (nI (oStep (nr, nc, pL, pG, pB, pk)).1) tr1_2 mv1_2 fo1_2 sp wr td ((oStep (nr, nc, pL, pG, pB, pk)).2.2.1) (nr, nc, pL, pG, pB, pk) ((ok_step (nr, nc, pL, pG, pB, pk)).th hk9)) (cwV 1 hts (lw_V q1825 q1827 qs40 q105 q1828) rfl rfl rfl (by decide +kernel) ⟨Nat.le_of_ble_eq_true rfl, Nat.le_of_ble_eq_true rfl⟩) hK hZ hA hP hD hS [0, 1, 2, 3, 4, 5, 6, 7, 8, 9] [] rfl rfl (by decide) (by decide) (by decide) 0 4 rfl rfl rfl hl.1 (Nat.le_of_ble_eq_true rfl) ⟨Nat.le_of_ble_eq_true rfl, Nat.le_of_ble_eq_true rfl⟩ rfl dX5_step_9 (fun r9 u9 H locs hw9 hP hD hS => ?_)
    subst hw9
    have hP : va_P G.1 CL (MW G mh md ((nr, nc, pL, pG, pB, pk).1) ((nr, nc, pL, pG, pB, pk).2.1) ((nr, nc, pL, pG, pB, pk).2.2.1) ((nr, nc, pL, pG, pB, pk).2.2.2.1) ((nr, nc, pL, pG, pB, pk).2.2.2.2.1) ((nr, nc, pL, pG, pB, pk).2.2.2.2.2) (gZ (nr, nc, pL, pG, pB, pk)) hi sv ch hs inp ty er (oWy (oStep (nr, nc, pL, pG, pB, pk)) wy) (oWd (oStep (nr, nc, pL, pG, pB, pk)) wd) (oRf (oStep (nr, nc, pL, pG, pB, pk)) rf) lt ln (nI (oStep (nr, nc, pL, pG, pB, pk)).1) tr1_2 mv1_2 fo1_2 sp wr td) _ := hP
    have hD : va_D A (MW G mh md ((nr, nc, pL, pG, pB, pk).1) ((nr, nc, pL, pG, pB, pk).2.1) ((nr, nc, pL, pG, pB, pk).2.2.1) ((nr, nc, pL, pG, pB, pk).2.2.2.1) ((nr, nc, pL, pG, pB, pk).2.2.2.2.1) ((nr, nc, pL, pG, pB, pk).2.2.2.2.2) (gZ (nr, nc, pL, pG, pB, pk)) hi sv ch hs inp ty er (oWy (oStep (nr, nc, pL, pG, pB, pk)) wy) (oWd (oStep (nr, nc, pL, pG, pB, pk)) wd) (oRf (oStep (nr, nc, pL, pG, pB, pk)) rf) lt ln (nI (oStep (nr, nc, pL, pG, pB, pk)).1) tr1_2 mv1_2 fo1_2 sp wr td) := hD
    have hP : va_P G.1 CL (MW G mh md nr nc pL pG pB pk (gZ (nr, nc, pL, pG, pB, pk)) hi sv ch hs inp ty er (oWy (oStep (nr, nc, pL, pG, pB, pk)) wy) (oWd (oStep (nr, nc, pL, pG, pB, pk)) wd) (oRf (oStep (nr, nc, pL, pG, pB, pk)) rf) lt ln (nI (oStep (nr, nc, pL, pG, pB, pk)).1) tr1_2 mv1_2 fo1_2 sp wr td) _ := hP
    have hD : va_D A (MW G mh md nr nc pL pG pB pk (gZ (nr, nc, pL, pG, pB, pk)) hi sv ch hs inp ty er (oWy (oStep (nr, nc, pL, pG, pB, pk)) wy) (oWd (oStep (nr, nc, pL, pG, pB, pk)) wd) (oRf (oStep (nr, nc, pL, pG, pB, pk)) rf) lt ln (nI (oStep (nr, nc, pL, pG, pB, pk)).1) tr1_2 mv1_2 fo1_2 sp wr td) := hD
    have hz9 := ((ok_step (nr, nc, pL, pG, pB, pk))).2.1 hk9
    subst hQ
    rw [hz9.1]
    exact ret_i hx hb hr hlk (⟨hi, ch, tr1_2, mv1_2, fo1_2⟩) ⟨hz9.2.symm, (by rw [oH, if_neg hk9]; exact hH)⟩ hP hD hS rfl dX5_step_12
set_option maxHeartbeats 4000000 in
set_option maxRecDepth 100000 in
theorem m_X5_letter (l : Launch) (G : GG) (mh : Nat) (md : Nat → Nat) (nr : Nat) (nc : Nat) (pL : Nat → Nat) (pG : Nat → Nat) (pB : Nat → Bool) (pk : Nat → Int32) (bf : Nat → Int32) (hi : Nat → Int32) (sv : Nat → Int32) (ch : Nat) (hs : Bool) (inp : Nat → Nat) (ty : Nat) (er : Int32) (wy : Int32) (wd : Int32) (rf : Bool) (lt : Nat → Nat) (ln : Nat) (th : Int32) (tr : Nat → Nat) (mv : Nat → Nat) (fo : Int32) (sp : Nat) (wr : Bool) (td : Nat → Int32) (pa : Int32) (hd : 2 ≤ nr ∧ nr ≤ 3 ∧ 2 ≤ nc ∧ nc ≤ 3) (hLR : ∀ q, q < nr * nc → 97 ≤ pL q ∧ pL q ≤ 108) : MM l G yX5_letter cX5_letter 2 (some .char) ⟨2, 0, 0, 43⟩ [.ref mh, .int pa] (MW G mh md nr nc pL pG pB pk bf hi sv ch hs inp ty er wy wd rf lt ln th tr mv fo sp wr td) (Qi_ G (fun (r : Int32) (_ : Unit) => r = nI (if isIx pa (nr * nc) = true then pL (cl_ pa) else 0)) (fun (_ : Unit) => (MW G mh md nr nc pL pG pB pk bf hi sv ch hs inp ty er wy wd rf lt ln (if isIx pa (nr * nc) = true then nI 0 else nI 1) tr mv fo sp wr td))) := by
  refine MM.of (by decide) (Nat.le_of_ble_eq_true rfl) ?_
  intro p e s m args below meth cd A C hini hA hK hZ hP hD ls hl
  generalize hQ : MQ below ((Qi_ G (fun (r : Int32) (_ : Unit) => r = nI (if isIx pa (nr * nc) = true then pL (cl_ pa) else 0)) (fun (_ : Unit) => (MW G mh md nr nc pL pG pB pk bf hi sv ch hs inp ty er wy wd rf lt ln (if isIx pa (nr * nc) = true then nI 0 else nI 1) tr mv fo sp wr td))) A) args s (⟨2, 0, 0, 43⟩ : Room).cells (⟨2, 0, 0, 43⟩ : Room).slots A = Q
  obtain ⟨hx, hb, hr, hts, hown, hlk, hml⟩ := C
  have hown : s.vm.findClass RX5 = some m.cls := hown
  have hS : va_S A s.heap s.heap [] := va_S.rf
  have hl : lv_has ls 2 [(0, .ref mh), (1, .int pa)] := hl
  have hmu := dm_mul hd
  refine lv_aload_n hx hb dX5_letter_0 rfl (lv_at hl 0 rfl) ?_
  refine lv_aload_n hx hb dX5_letter_1 rfl (lv_at hl 0 rfl) ?_
  refine lv_iload_n hx hb dX5_letter_2 rfl (lv_at hl 1 rfl) ?_
  refine callVi (As := [.int pa]) (rest := [.ref mh]) (wc := (MW G mh md nr nc pL pG pB pk bf hi sv ch hs inp ty er wy wd rf lt ln th tr mv fo sp wr td)) (wr := ([] : va_W)) ⟨hx, hb, hml, hown, hts⟩ (m_X5_isPlace l G mh md nr nc pL pG pB pk bf hi sv ch hs inp ty er wy wd rf lt ln th tr mv fo sp wr td pa (by first | assumption | omega)) (cwV 1 hts (lw_V q1837 q1839 qs42 q105 q1840) rfl rfl rfl (by decide +kernel) ⟨Nat.le_of_ble_eq_true rfl, Nat.le_of_ble_eq_true rfl⟩) hK hZ hA hP hD hS [0, 1, 2, 3, 4, 5, 6, 7, 8, 9] [] rfl rfl (by decide) (by decide) (by decide) 0 4 rfl rfl rfl hl.1 (Nat.le_of_ble_eq_true rfl) ⟨Nat.le_of_ble_eq_true rfl, Nat.le_of_ble_eq_true rfl⟩ rfl dX5_letter_3 (fun r9 u9 H locs hw9 hP hD hS => ?_)
  subst hw9
  have hP : va_P G.1 CL (MW G mh md nr nc pL pG pB pk bf hi sv ch hs inp ty er wy wd rf lt ln th tr mv fo sp wr td) _ := hP
  have hD : va_D A (MW G mh md nr nc pL pG pB pk bf hi sv ch hs inp ty er wy wd rf lt ln th tr mv fo sp wr td) := hD
  refine b_if_eq (tgt := 13) hx hb dX5_letter_6 (by decide) (fun c6 => ?_) (fun c6 => ?_)
  · skip
    refine lv_iconst (v := nI 1) hx hb dX5_letter_13 (by decide) ?_
    refine va_put (D := G.1) (ci := 4) (v := .int (nI 1)) (ty := .int) (C := RX5) (T := TX5) (N := 21) hx hb hts in_X5 tyX5 tyX5_ok nmX5 hown hK hP hD hS 0 rfl rfl 14 (by decide) (hts _ q1741) (fun _ h9 => h9) rfl (by decide +kernel) rfl rfl (Nat.le_of_ble_eq_true rfl) dX5_letter_14 (fun H locs hP hD hS => ?_)
    have hP : va_P G.1 CL (MW G mh md nr nc pL pG pB pk bf hi sv ch hs inp ty er wy wd rf lt ln (nI 1) tr mv fo sp wr td) _ := hP
    have hD : va_D A (MW G mh md nr nc pL pG pB pk bf hi sv ch hs inp ty er wy wd rf lt ln (nI 1) tr mv fo sp wr td) := hD
    refine lv_aload_n hx hb dX5_letter_17 rfl (lv_at hl 0 rfl) ?_
    refine va_get (D := G.1) (ci := 4) (v := .int (nI 1)) (C := RX5) (T := TX5) (N := 21) hx hb hts in_X5 hown hK hP 0 rfl rfl 14 (by decide) (hts _ q1741) (fun _ h9 => h9) rfl dX5_letter_18 ?_
    refine n_if_ne (tgt := 39) hx hb dX5_letter_21 (by decide) (by decide) (fun c21 => ?_) (fun c21 => ?_)
    rotate_left
    · exact absurd c21 (by decide)
    refine lv_iconst (v := nI 0) hx hb dX5_letter_39 (by decide) ?_
    have e_th : nI 1 = (if isIx pa (nr * nc) = true then nI 0 else nI 1) := (if_neg (by rw [c6]; decide)).symm
    rw [e_th] at hP hD
    subst hQ
    exact ret_i hx hb hr hlk () (congrArg nI (by rw [if_neg (by rw [c6]; decide)])) hP hD hS (pk_charN (by first | omega | (have := hLR ka hka; omega) | (have := hKR ka hka; omega))).1 dX5_letter_40
  · skip
    refine lv_iconst (v := nI 0) hx hb dX5_letter_9 (by decide) ?_
    refine lv_goto (tgt := 14) hx hb dX5_letter_10 (by decide) ?_
    refine va_put (D := G.1) (ci := 4) (v := .int (nI 0)) (ty := .int) (C := RX5) (T := TX5) (N := 21) hx hb hts in_X5 tyX5 tyX5_ok nmX5 hown hK hP hD hS 0 rfl rfl 14 (by decide) (hts _ q1741) (fun _ h9 => h9) rfl (by decide +kernel) rfl rfl (Nat.le_of_ble_eq_true rfl) dX5_letter_14 (fun H locs hP hD hS => ?_)
    have hP : va_P G.1 CL (MW G mh md nr nc pL pG pB pk bf hi sv ch hs inp ty er wy wd rf lt ln (nI 0) tr mv fo sp wr td) _ := hP
    have hD : va_D A (MW G mh md nr nc pL pG pB pk bf hi sv ch hs inp ty er wy wd rf lt ln (nI 0) tr mv fo sp wr td) := hD
    refine lv_aload_n hx hb dX5_letter_17 rfl (lv_at hl 0 rfl) ?_
    refine va_get (D := G.1) (ci := 4) (v := .int (nI 0)) (C := RX5) (T := TX5) (N := 21) hx hb hts in_X5 hown hK hP 0 rfl rfl 14 (by decide) (hts _ q1741) (fun _ h9 => h9) rfl dX5_letter_18 ?_
    refine n_if_ne (tgt := 39) hx hb dX5_letter_21 (by decide) (by decide) (fun c21 => ?_) (fun c21 => ?_)
    · exact absurd c21 (by decide)
    obtain ⟨ka, hka, rfl⟩ := isIx_t c6 (by omega)
    refine lv_aload_n hx hb dX5_letter_24 rfl (lv_at hl 0 rfl) ?_
    refine va_get (D := G.1) (ci := 4) (v := .ref (md 0)) (C := RX5) (T := TX5) (N := 21) hx hb hts in_X5 hown hK hP 0 rfl rfl 0 (by decide) (hts _ q1727) (fun _ h9 => h9) rfl dX5_letter_25 ?_
    refine lv_bipush (v := nI 14) hx hb dX5_letter_28 (by decide) ?_
    refine lv_iload_n hx hb dX5_letter_30 rfl (lv_at hl 1 rfl) ?_
    refine n_iadd hx hb dX5_letter_31 ?_
    refine r_iald hx hb hK hP 1 3 rfl rfl (by omega) (by decide) dX5_letter_32 ?_
    refine eq_i (y := nI (pL ka - 97)) (gZ_c (by omega)) ?_
    refine callSi (As := [.int (nI (pL ka - 97))]) (rest := []) (wc := ([] : va_W)) (wr := (MW G mh md nr nc pL pG pB pk bf hi sv ch hs inp ty er wy wd rf lt ln (nI 0) tr mv fo sp wr td)) ⟨hx, hb, hml, hown, hts⟩ (m_X5_signOf l G (nI (pL ka - 97)) (pL ka) (show gk (pL ka) = nI (pL ka - 97) from if_neg (by have := hLR ka hka; omega)) (Or.inr (hLR ka hka))) (va_cwS 1 hts (lw_S q1852 q1853 q105 q1854) rfl rfl rfl (by decide +kernel) ⟨Nat.le_of_ble_eq_true rfl, Nat.le_of_ble_eq_true rfl⟩) hK hZ hA hP hD hS [] [0, 1, 2, 3, 4, 5, 6, 7, 8, 9] rfl rfl (by decide) (by decide) (by decide) rfl hl.1 (Nat.le_of_ble_eq_true rfl) ⟨Nat.le_of_ble_eq_true rfl, Nat.le_of_ble_eq_true rfl⟩ rfl dX5_letter_33 (fun r9 u9 H locs hw9 hP hD hS => ?_)
    subst hw9
    have hP : va_P G.1 CL (MW G mh md nr nc pL pG pB pk bf hi sv ch hs inp ty er wy wd rf lt ln (nI 0) tr mv fo sp wr td) _ := hP
    have hD : va_D A (MW G mh md nr nc pL pG pB pk bf hi sv ch hs inp ty er wy wd rf lt ln (nI 0) tr mv fo sp wr td) := hD
    refine lv_goto (tgt := 40) hx hb dX5_letter_36 (by decide) ?_
    have e_th : nI 0 = (if isIx (nI ka) (nr * nc) = true then nI 0 else nI 1) := (if_pos c6).symm
    rw [e_th] at hP hD
    subst hQ
    exact ret_i hx hb hr hlk () (congrArg nI (by rw [if_pos c6, cl_n (by omega)])) hP hD hS (pk_charN (by first | omega | (have := hLR ka hka; omega) | (have := hKR ka hka; omega))).1 dX5_letter_40
set_option maxHeartbeats 4000000 in
set_option maxRecDepth 100000 in
theorem m_X5_sign (l : Launch) (G : GG) (mh : Nat) (md : Nat → Nat) (nr : Nat) (nc : Nat) (pL : Nat → Nat) (pG : Nat → Nat) (pB : Nat → Bool) (pk : Nat → Int32) (bf : Nat → Int32) (hi : Nat → Int32) (sv : Nat → Int32) (ch : Nat) (hs : Bool) (inp : Nat → Nat) (ty : Nat) (er : Int32) (wy : Int32) (wd : Int32) (rf : Bool) (lt : Nat → Nat) (ln : Nat) (th : Int32) (tr : Nat → Nat) (mv : Nat → Nat) (fo : Int32) (sp : Nat) (wr : Bool) (td : Nat → Int32) (pa : Int32) (hd : 2 ≤ nr ∧ nr ≤ 3 ∧ 2 ≤ nc ∧ nc ≤ 3) (hKR : ∀ q, q < nr * nc → pG q = 46 ∨ (97 ≤ pG q ∧ pG q ≤ 108)) : MM l G yX5_sign cX5_sign 2 (some .char) ⟨2, 0, 0, 43⟩ [.ref mh, .int pa] (MW G mh md nr nc pL pG pB pk bf hi sv ch hs inp ty er wy wd rf lt ln th tr mv fo sp wr td) (Qi_ G (fun (r : Int32) (_ : Unit) => r = nI (if isIx pa (nr * nc) = true then pG (cl_ pa) else 0)) (fun (_ : Unit) => (MW G mh md nr nc pL pG pB pk bf hi sv ch hs inp ty er wy wd rf lt ln (if isIx pa (nr * nc) = true then nI 0 else nI 1) tr mv fo sp wr td))) := by
  refine MM.of (by decide) (Nat.le_of_ble_eq_true rfl) ?_
  intro p e s m args below meth cd A C hini hA hK hZ hP hD ls hl
  generalize hQ : MQ below ((Qi_ G (fun (r : Int32) (_ : Unit) => r = nI (if isIx pa (nr * nc) = true then pG (cl_ pa) else 0)) (fun (_ : Unit) => (MW G mh md nr nc pL pG pB pk bf hi sv ch hs inp ty er wy wd rf lt ln (if isIx pa (nr * nc) = true then nI 0 else nI 1) tr mv fo sp wr td))) A) args s (⟨2, 0, 0, 43⟩ : Room).cells (⟨2, 0, 0, 43⟩ : Room).slots A = Q
  obtain ⟨hx, hb, hr, hts, hown, hlk, hml⟩ := C
  have hown : s.vm.findClass RX5 = some m.cls := hown
  have hS : va_S A s.heap s.heap [] := va_S.rf
  have hl : lv_has ls 2 [(0, .ref mh), (1, .int pa)] := hl
  have hmu := dm_mul hd
  refine lv_aload_n hx hb dX5_sign_0 rfl (lv_at hl 0 rfl) ?_
  refine lv_aload_n hx hb dX5_sign_1 rfl (lv_at hl 0 rfl) ?_
  refine lv_iload_n hx hb dX5_sign_2 rfl (lv_at hl 1 rfl) ?_
  refine callVi (As := [.int pa]) (rest := [.ref mh]) (wc := (MW G mh md nr nc pL pG pB pk bf hi sv ch hs inp ty er wy wd rf lt ln th tr mv fo sp wr td)) (wr := ([] : va_W)) ⟨hx, hb, hml, hown, hts⟩ (m_X5_isPlace l G mh md nr nc pL pG pB pk bf hi sv ch hs inp ty er wy wd rf lt ln th tr mv fo sp wr td pa (by first | assumption | omega)) (cwV 1 hts (lw_V q1837 q1839 qs42 q105 q1840) rfl rfl rfl (by decide +kernel) ⟨Nat.le_of_ble_eq_true rfl, Nat.le_of_ble_eq_true rfl⟩) hK hZ hA hP hD hS [0, 1, 2, 3, 4, 5, 6, 7, 8, 9] [] rfl rfl (by decide) (by decide) (by decide) 0 4 rfl rfl rfl hl.1 (Nat.le_of_ble_eq_true rfl) ⟨Nat.le_of_ble_eq_true rfl, Nat.le_of_ble_eq_true rfl⟩ rfl dX5_sign_3 (fun r9 u9 H locs hw9 hP hD hS => ?_)
  subst hw9
  have hP : va_P G.1 CL (MW G mh md nr nc pL pG pB pk bf hi sv ch hs inp ty er wy wd rf lt ln th tr mv fo sp wr td) _ := hP
  have hD : va_D A (MW G mh md nr nc pL pG pB pk bf hi sv ch hs inp ty er wy wd rf lt ln th tr mv fo sp wr td) := hD
  refine b_if_eq (tgt := 13) hx hb dX5_sign_6 (by decide) (fun c6 => ?_) (fun c6 => ?_)
  · skip
    refine lv_iconst (v := nI 1) hx hb dX5_sign_13 (by decide) ?_
    refine va_put (D := G.1) (ci := 4) (v := .int (nI 1)) (ty := .int) (C := RX5) (T := TX5) (N := 21) hx hb hts in_X5 tyX5 tyX5_ok nmX5 hown hK hP hD hS 0 rfl rfl 14 (by decide) (hts _ q1741) (fun _ h9 => h9) rfl (by decide +kernel) rfl rfl (Nat.le_of_ble_eq_true rfl) dX5_sign_14 (fun H locs hP hD hS => ?_)
    have hP : va_P G.1 CL (MW G mh md nr nc pL pG pB pk bf hi sv ch hs inp ty er wy wd rf lt ln (nI 1) tr mv fo sp wr td) _ := hP
    have hD : va_D A (MW G mh md nr nc pL pG pB pk bf hi sv ch hs inp ty er wy wd rf lt ln (nI 1) tr mv fo sp wr td) := hD
    refine lv_aload_n hx hb dX5_sign_17 rfl (lv_at hl 0 rfl) ?_
    refine va_get (D := G.1) (ci := 4) (v := .int (nI 1)) (C := RX5) (T := TX5) (N := 21) hx hb hts in_X5 hown hK hP 0 rfl rfl 14 (by decide) (hts _ q1741) (fun _ h9 => h9) rfl dX5_sign_18 ?_
    refine n_if_ne (tgt := 39) hx hb dX5_sign_21 (by decide) (by decide) (fun c21 => ?_) (fun c21 => ?_)
    rotate_left
    · exact absurd c21 (by decide)
    refine lv_iconst (v := nI 0) hx hb dX5_sign_39 (by decide) ?_
    have e_th : nI 1 = (if isIx pa (nr * nc) = true then nI 0 else nI 1) := (if_neg (by rw [c6]; decide)).symm
    rw [e_th] at hP hD
    subst hQ
    exact ret_i hx hb hr hlk () (congrArg nI (by rw [if_neg (by rw [c6]; decide)])) hP hD hS (pk_charN (by first | omega | (have := hKR ka hka; omega))).1 dX5_sign_40
  · skip
    refine lv_iconst (v := nI 0) hx hb dX5_sign_9 (by decide) ?_
    refine lv_goto (tgt := 14) hx hb dX5_sign_10 (by decide) ?_
    refine va_put (D := G.1) (ci := 4) (v := .int (nI 0)) (ty := .int) (C := RX5) (T := TX5) (N := 21) hx hb hts in_X5 tyX5 tyX5_ok nmX5 hown hK hP hD hS 0 rfl rfl 14 (by decide) (hts _ q1741) (fun _ h9 => h9) rfl (by decide +kernel) rfl rfl (Nat.le_of_ble_eq_true rfl) dX5_sign_14 (fun H locs hP hD hS => ?_)
    have hP : va_P G.1 CL (MW G mh md nr nc pL pG pB pk bf hi sv ch hs inp ty er wy wd rf lt ln (nI 0) tr mv fo sp wr td) _ := hP
    have hD : va_D A (MW G mh md nr nc pL pG pB pk bf hi sv ch hs inp ty er wy wd rf lt ln (nI 0) tr mv fo sp wr td) := hD
    refine lv_aload_n hx hb dX5_sign_17 rfl (lv_at hl 0 rfl) ?_
    refine va_get (D := G.1) (ci := 4) (v := .int (nI 0)) (C := RX5) (T := TX5) (N := 21) hx hb hts in_X5 hown hK hP 0 rfl rfl 14 (by decide) (hts _ q1741) (fun _ h9 => h9) rfl dX5_sign_18 ?_
    refine n_if_ne (tgt := 39) hx hb dX5_sign_21 (by decide) (by decide) (fun c21 => ?_) (fun c21 => ?_)
    · exact absurd c21 (by decide)
    obtain ⟨ka, hka, rfl⟩ := isIx_t c6 (by omega)
    refine lv_aload_n hx hb dX5_sign_24 rfl (lv_at hl 0 rfl) ?_
    refine va_get (D := G.1) (ci := 4) (v := .ref (md 0)) (C := RX5) (T := TX5) (N := 21) hx hb hts in_X5 hown hK hP 0 rfl rfl 0 (by decide) (hts _ q1727) (fun _ h9 => h9) rfl dX5_sign_25 ?_
    refine lv_bipush (v := nI 23) hx hb dX5_sign_28 (by decide) ?_
    refine lv_iload_n hx hb dX5_sign_30 rfl (lv_at hl 1 rfl) ?_
    refine n_iadd hx hb dX5_sign_31 ?_
    refine r_iald hx hb hK hP 1 3 rfl rfl (by omega) (by decide) dX5_sign_32 ?_
    refine eq_i (y := (gk (pG ka))) (gZ_k (by omega)) ?_
    refine callSi (As := [.int (gk (pG ka))]) (rest := []) (wc := ([] : va_W)) (wr := (MW G mh md nr nc pL pG pB pk bf hi sv ch hs inp ty er wy wd rf lt ln (nI 0) tr mv fo sp wr td)) ⟨hx, hb, hml, hown, hts⟩ (m_X5_signOf l G (gk (pG ka)) (pG ka) rfl (hKR ka hka)) (va_cwS 1 hts (lw_S q1852 q1853 q105 q1854) rfl rfl rfl (by decide +kernel) ⟨Nat.le_of_ble_eq_true rfl, Nat.le_of_ble_eq_true rfl⟩) hK hZ hA hP hD hS [] [0, 1, 2, 3, 4, 5, 6, 7, 8, 9] rfl rfl (by decide) (by decide) (by decide) rfl hl.1 (Nat.le_of_ble_eq_true rfl) ⟨Nat.le_of_ble_eq_true rfl, Nat.le_of_ble_eq_true rfl⟩ rfl dX5_sign_33 (fun r9 u9 H locs hw9 hP hD hS => ?_)
    subst hw9
    have hP : va_P G.1 CL (MW G mh md nr nc pL pG pB pk bf hi sv ch hs inp ty er wy wd rf lt ln (nI 0) tr mv fo sp wr td) _ := hP
    have hD : va_D A (MW G mh md nr nc pL pG pB pk bf hi sv ch hs inp ty er wy wd rf lt ln (nI 0) tr mv fo sp wr td) := hD
    refine lv_goto (tgt := 40) hx hb dX5_sign_36 (by decide) ?_
    have e_th : nI 0 = (if isIx (nI ka) (nr * nc) = true then nI 0 else nI 1) := (if_pos c6).symm
    rw [e_th] at hP hD
    subst hQ
    exact ret_i hx hb hr hlk () (congrArg nI (by rw [if_pos c6, cl_n (by omega)])) hP hD hS (pk_charN (by first | omega | (have := hKR ka hka; omega))).1 dX5_sign_40
set_option maxHeartbeats 4000000 in
set_option maxRecDepth 100000 in
theorem m_X5_isBarred (l : Launch) (G : GG) (mh : Nat) (md : Nat → Nat) (nr : Nat) (nc : Nat) (pL : Nat → Nat) (pG : Nat → Nat) (pB : Nat → Bool) (pk : Nat → Int32) (bf : Nat → Int32) (hi : Nat → Int32) (sv : Nat → Int32) (ch : Nat) (hs : Bool) (inp : Nat → Nat) (ty : Nat) (er : Int32) (wy : Int32) (wd : Int32) (rf : Bool) (lt : Nat → Nat) (ln : Nat) (th : Int32) (tr : Nat → Nat) (mv : Nat → Nat) (fo : Int32) (sp : Nat) (wr : Bool) (td : Nat → Int32) (pa : Int32) (hd : 2 ≤ nr ∧ nr ≤ 3 ∧ 2 ≤ nc ∧ nc ≤ 3) : MM l G yX5_isBarred cX5_isBarred 2 (some .boolean) ⟨2, 0, 0, 43⟩ [.ref mh, .int pa] (MW G mh md nr nc pL pG pB pk bf hi sv ch hs inp ty er wy wd rf lt ln th tr mv fo sp wr td) (Qi_ G (fun (r : Int32) (_ : Unit) => r = bI (if isIx pa (nr + nc) = true then pB (cl_ pa) else false)) (fun (_ : Unit) => (MW G mh md nr nc pL pG pB pk bf hi sv ch hs inp ty er wy wd rf lt ln (if isIx pa (nr + nc) = true then nI 0 else nI 1) tr mv fo sp wr td))) := by
  refine MM.of (by decide) (Nat.le_of_ble_eq_true rfl) ?_
  intro p e s m args below meth cd A C hini hA hK hZ hP hD ls hl
  generalize hQ : MQ below ((Qi_ G (fun (r : Int32) (_ : Unit) => r = bI (if isIx pa (nr + nc) = true then pB (cl_ pa) else false)) (fun (_ : Unit) => (MW G mh md nr nc pL pG pB pk bf hi sv ch hs inp ty er wy wd rf lt ln (if isIx pa (nr + nc) = true then nI 0 else nI 1) tr mv fo sp wr td))) A) args s (⟨2, 0, 0, 43⟩ : Room).cells (⟨2, 0, 0, 43⟩ : Room).slots A = Q
  obtain ⟨hx, hb, hr, hts, hown, hlk, hml⟩ := C
  have hown : s.vm.findClass RX5 = some m.cls := hown
  have hS : va_S A s.heap s.heap [] := va_S.rf
  have hl : lv_has ls 2 [(0, .ref mh), (1, .int pa)] := hl
  have hmu := dm_mul hd
  refine lv_aload_n hx hb dX5_isBarred_0 rfl (lv_at hl 0 rfl) ?_
  refine lv_aload_n hx hb dX5_isBarred_1 rfl (lv_at hl 0 rfl) ?_
  refine lv_iload_n hx hb dX5_isBarred_2 rfl (lv_at hl 1 rfl) ?_
  refine callVi (As := [.int pa]) (rest := [.ref mh]) (wc := (MW G mh md nr nc pL pG pB pk bf hi sv ch hs inp ty er wy wd rf lt ln th tr mv fo sp wr td)) (wr := ([] : va_W)) ⟨hx, hb, hml, hown, hts⟩ (m_X5_isLine l G mh md nr nc pL pG pB pk bf hi sv ch hs inp ty er wy wd rf lt ln th tr mv fo sp wr td pa (by first | assumption | omega)) (cwV 1 hts (lw_V q1931 q1933 qs60 q105 q1934) rfl rfl rfl (by decide +kernel) ⟨Nat.le_of_ble_eq_true rfl, Nat.le_of_ble_eq_true rfl⟩) hK hZ hA hP hD hS [0, 1, 2, 3, 4, 5, 6, 7, 8, 9] [] rfl rfl (by decide) (by decide) (by decide) 0 4 rfl rfl rfl hl.1 (Nat.le_of_ble_eq_true rfl) ⟨Nat.le_of_ble_eq_true rfl, Nat.le_of_ble_eq_true rfl⟩ rfl dX5_isBarred_3 (fun r9 u9 H locs hw9 hP hD hS => ?_)
  subst hw9
  have hP : va_P G.1 CL (MW G mh md nr nc pL pG pB pk bf hi sv ch hs inp ty er wy wd rf lt ln th tr mv fo sp wr td) _ := hP
  have hD : va_D A (MW G mh md nr nc pL pG pB pk bf hi sv ch hs inp ty er wy wd rf lt ln th tr mv fo sp wr td) := hD
  refine b_if_eq (tgt := 13) hx hb dX5_isBarred_6 (by decide) (fun c6 => ?_) (fun c6 => ?_)
  · skip
    refine lv_iconst (v := nI 1) hx hb dX5_isBarred_13 (by decide) ?_
    refine va_put (D := G.1) (ci := 4) (v := .int (nI 1)) (ty := .int) (C := RX5) (T := TX5) (N := 21) hx hb hts in_X5 tyX5 tyX5_ok nmX5 hown hK hP hD hS 0 rfl rfl 14 (by decide) (hts _ q1741) (fun _ h9 => h9) rfl (by decide +kernel) rfl rfl (Nat.le_of_ble_eq_true rfl) dX5_isBarred_14 (fun H locs hP hD hS => ?_)
    have hP : va_P G.1 CL (MW G mh md nr nc pL pG pB pk bf hi sv ch hs inp ty er wy wd rf lt ln (nI 1) tr mv fo sp wr td) _ := hP
    have hD : va_D A (MW G mh md nr nc pL pG pB pk bf hi sv ch hs inp ty er wy wd rf lt ln (nI 1) tr mv fo sp wr td) := hD
    refine lv_aload_n hx hb dX5_isBarred_17 rfl (lv_at hl 0 rfl) ?_
    refine va_get (D := G.1) (ci := 4) (v := .int (nI 1)) (C := RX5) (T := TX5) (N := 21) hx hb hts in_X5 hown hK hP 0 rfl rfl 14 (by decide) (hts _ q1741) (fun _ h9 => h9) rfl dX5_isBarred_18 ?_
    refine n_if_ne (tgt := 41) hx hb dX5_isBarred_21 (by decide) (by decide) (fun c21 => ?_) (fun c21 => ?_)
    rotate_left
    · exact absurd c21 (by decide)
    refine lv_iconst (v := nI 0) hx hb dX5_isBarred_41 (by decide) ?_
    have e_th : nI 1 = (if isIx pa (nr + nc) = true then nI 0 else nI 1) := (if_neg (by rw [c6]; decide)).symm
    rw [e_th] at hP hD
    subst hQ
    exact ret_i hx hb hr hlk () (bI_0 (by first | (rw [if_pos c6, cl_n (by omega)]; cases hb9 : pB ka; rfl; (exact absurd (by rw [hb9]; rfl) c34)) | (rw [if_neg (by rw [c6]; decide)]))) hP hD hS rfl dX5_isBarred_42
  · skip
    refine lv_iconst (v := nI 0) hx hb dX5_isBarred_9 (by decide) ?_
    refine lv_goto (tgt := 14) hx hb dX5_isBarred_10 (by decide) ?_
    refine va_put (D := G.1) (ci := 4) (v := .int (nI 0)) (ty := .int) (C := RX5) (T := TX5) (N := 21) hx hb hts in_X5 tyX5 tyX5_ok nmX5 hown hK hP hD hS 0 rfl rfl 14 (by decide) (hts _ q1741) (fun _ h9 => h9) rfl (by decide +kernel) rfl rfl (Nat.le_of_ble_eq_true rfl) dX5_isBarred_14 (fun H locs hP hD hS => ?_)
    have hP : va_P G.1 CL (MW G mh md nr nc pL pG pB pk bf hi sv ch hs inp ty er wy wd rf lt ln (nI 0) tr mv fo sp wr td) _ := hP
    have hD : va_D A (MW G mh md nr nc pL pG pB pk bf hi sv ch hs inp ty er wy wd rf lt ln (nI 0) tr mv fo sp wr td) := hD
    refine lv_aload_n hx hb dX5_isBarred_17 rfl (lv_at hl 0 rfl) ?_
    refine va_get (D := G.1) (ci := 4) (v := .int (nI 0)) (C := RX5) (T := TX5) (N := 21) hx hb hts in_X5 hown hK hP 0 rfl rfl 14 (by decide) (hts _ q1741) (fun _ h9 => h9) rfl dX5_isBarred_18 ?_
    refine n_if_ne (tgt := 41) hx hb dX5_isBarred_21 (by decide) (by decide) (fun c21 => ?_) (fun c21 => ?_)
    · exact absurd c21 (by decide)
    obtain ⟨ka, hka, rfl⟩ := isIx_t c6 (by omega)
    refine lv_aload_n hx hb dX5_isBarred_24 rfl (lv_at hl 0 rfl) ?_
    refine va_get (D := G.1) (ci := 4) (v := .ref (md 0)) (C := RX5) (T := TX5) (N := 21) hx hb hts in_X5 hown hK hP 0 rfl rfl 0 (by decide) (hts _ q1727) (fun _ h9 => h9) rfl dX5_isBarred_25 ?_
    refine lv_bipush (v := nI 8) hx hb dX5_isBarred_28 (by decide) ?_
    refine lv_iload_n hx hb dX5_isBarred_30 rfl (lv_at hl 1 rfl) ?_
    refine n_iadd hx hb dX5_isBarred_31 ?_
    refine r_iald hx hb hK hP 1 3 rfl rfl (by omega) (by decide) dX5_isBarred_32 ?_
    refine eq_i (y := bI (pB ka)) (gZ_b (by omega)) ?_
    refine lv_iconst (v := nI 1) hx hb dX5_isBarred_33 (by decide) ?_
    refine lv_icmp_ne (tgt := 41) hx hb dX5_isBarred_34 (by decide) (fun c34 => ?_) (fun c34 => ?_)
    · skip
      refine lv_iconst (v := nI 0) hx hb dX5_isBarred_41 (by decide) ?_
      have e_th : nI 0 = (if isIx (nI ka) (nr + nc) = true then nI 0 else nI 1) := (if_pos c6).symm
      rw [e_th] at hP hD
      subst hQ
      exact ret_i hx hb hr hlk () (bI_0 (by first | (rw [if_pos c6, cl_n (by omega)]; cases hb9 : pB ka; rfl; (exact absurd (by rw [hb9]; rfl) c34)) | (rw [if_neg (by rw [c6]; decide)]))) hP hD hS rfl dX5_isBarred_42
    · skip
      refine lv_iconst (v := nI 1) hx hb dX5_isBarred_37 (by decide) ?_
      refine lv_goto (tgt := 42) hx hb dX5_isBarred_38 (by decide) ?_
      have e_th : nI 0 = (if isIx (nI ka) (nr + nc) = true then nI 0 else nI 1) := (if_pos c6).symm
      rw [e_th] at hP hD
      subst hQ
      exact ret_i hx hb hr hlk () (bI_1 (by rw [if_pos c6, cl_n (by omega)]; exact bI_inj.mp c34)) hP hD hS rfl dX5_isBarred_42
set_option maxHeartbeats 4000000 in
set_option maxRecDepth 100000 in
theorem m_X5_barredLines (l : Launch) (G : GG) (mh : Nat) (md : Nat → Nat) (nr : Nat) (nc : Nat) (pL : Nat → Nat) (pG : Nat → Nat) (pB : Nat → Bool) (pk : Nat → Int32) (bf : Nat → Int32) (hi : Nat → Int32) (sv : Nat → Int32) (ch : Nat) (hs : Bool) (inp : Nat → Nat) (ty : Nat) (er : Int32) (wy : Int32) (wd : Int32) (rf : Bool) (lt : Nat → Nat) (ln : Nat) (th : Int32) (tr : Nat → Nat) (mv : Nat → Nat) (fo : Int32) (sp : Nat) (wr : Bool) (td : Nat → Int32) (hd : 2 ≤ nr ∧ nr ≤ 3 ∧ 2 ≤ nc ∧ nc ≤ 3) : MM l G yX5_barredLines cX5_barredLines 3 (some .int) ⟨1, 0, 0, 20⟩ [.ref mh] (MW G mh md nr nc pL pG pB pk bf hi sv ch hs inp ty er wy wd rf lt ln th tr mv fo sp wr td) (Qi_ G (fun (r : Int32) (_ : Unit) => r = nI (cn pB (nr + nc))) (fun (_ : Unit) => (MW G mh md nr nc pL pG pB pk bf hi sv ch hs inp ty er wy wd rf lt ln th tr mv fo sp wr td))) := by
  refine MM.of (by decide) (Nat.le_of_ble_eq_true rfl) ?_
  intro p e s m args below meth cd A C hini hA hK hZ hP hD ls hl
  generalize hQ : MQ below ((Qi_ G (fun (r : Int32) (_ : Unit) => r = nI (cn pB (nr + nc))) (fun (_ : Unit) => (MW G mh md nr nc pL pG pB pk bf hi sv ch hs inp ty er wy wd rf lt ln th tr mv fo sp wr td))) A) args s (⟨1, 0, 0, 20⟩ : Room).cells (⟨1, 0, 0, 20⟩ : Room).slots A = Q
  obtain ⟨hx, hb, hr, hts, hown, hlk, hml⟩ := C
  have hown : s.vm.findClass RX5 = some m.cls := hown
  have hS : va_S A s.heap s.heap [] := va_S.rf
  have hl : lv_has ls 3 [(0, .ref mh)] := hl
  have hmu := dm_mul hd
  refine lv_iconst (v := nI 0) hx hb dX5_barredLines_0 (by decide) ?_
  refine lv_istore_n (lv' := [(1, .int (nI 0)), (0, .ref mh)]) hx hb dX5_barredLines_1 rfl hl (by decide) rfl (fun ls hl => ?_)
  refine lv_iconst (v := nI 0) hx hb dX5_barredLines_2 (by decide) ?_
  refine lv_istore_n (lv' := [(2, .int (nI 0)), (1, .int (nI 0)), (0, .ref mh)]) hx hb dX5_barredLines_3 rfl hl (by decide) rfl (fun ls hl => ?_)
  have lp4 : ∀ (f : Nat) (v : Nat) (n : Nat), nr + nc - v < f → (v ≤ nr + nc) → (n = cn pB v) → ∀ (H : Heap) (locs : List Loc) (ls : Array Slot), va_P G.1 CL (MW G mh md nr nc pL pG pB pk bf hi sv ch hs inp ty er wy wd rf lt ln th tr mv fo sp wr td) H → va_D A (MW G mh md nr nc pL pG pB pk bf hi sv ch hs inp ty er wy wd rf lt ln th tr mv fo sp wr td) → va_S A s.heap H locs → lv_has ls 3 [(2, .int (nI v)), (1, .int (nI n)), (0, .ref mh)] → W p l e (⟨1, 0, 0, 20⟩ : Room) s m args below meth cd H locs 0 0 Q (F0 m 4 ls []) := by
    intro f
    induction f with
    | zero => intro v n hf; exact absurd hf (Nat.not_lt_zero _)
    | succ f ih4 =>
      intro v n hf hv9 hn H locs ls hP hD hS hl
      refine lv_iload_n hx hb dX5_barredLines_4 rfl (lv_at hl 0 rfl) ?_
      refine lv_aload_n hx hb dX5_barredLines_5 rfl (lv_at hl 2 rfl) ?_
      refine callVi (As := []) (rest := [.int (nI v)]) (wc := (MW G mh md nr nc pL pG pB pk bf hi sv ch hs inp ty er wy wd rf lt ln th tr mv fo sp wr td)) (wr := ([] : va_W)) ⟨hx, hb, hml, hown, hts⟩ (m_X5_lines l G mh md nr nc pL pG pB pk bf hi sv ch hs inp ty er wy wd rf lt ln th tr mv fo sp wr td ) (cwV 0 hts (lw_V q1875 q1877 qs48 q105 q1878) rfl rfl rfl (by decide +kernel) ⟨Nat.le_of_ble_eq_true rfl, Nat.le_of_ble_eq_true rfl⟩) hK hZ hA hP hD hS [0, 1, 2, 3, 4, 5, 6, 7, 8, 9] [] rfl rfl (by decide) (by decide) (by decide) 0 4 rfl rfl rfl hl.1 (Nat.le_of_ble_eq_true rfl) ⟨Nat.le_of_ble_eq_true rfl, Nat.le_of_ble_eq_true rfl⟩ rfl dX5_barredLines_6 (fun r9 u9 H locs hw9 hP hD hS => ?_)
      subst hw9
      have hP : va_P G.1 CL (MW G mh md nr nc pL pG pB pk bf hi sv ch hs inp ty er wy wd rf lt ln th tr mv fo sp wr td) _ := hP
      have hD : va_D A (MW G mh md nr nc pL pG pB pk bf hi sv ch hs inp ty er wy wd rf lt ln th tr mv fo sp wr td) := hD
      refine n_cmp_ge (tgt := 30) hx hb dX5_barredLines_9 (by decide) (by omega) (by omega) (fun c9 => ?_) (fun c9 => ?_)
      · skip
        refine lv_iload_n hx hb dX5_barredLines_30 rfl (lv_at hl 1 rfl) ?_
        subst hQ
        exact ret_i hx hb hr hlk () (by rw [hn, show v = nr + nc by omega]) hP hD hS rfl dX5_barredLines_31
      · skip
        refine lv_iload_n hx hb dX5_barredLines_12 rfl (lv_at hl 1 rfl) ?_
        refine lv_aload_n hx hb dX5_barredLines_13 rfl (lv_at hl 2 rfl) ?_
        refine va_get (D := G.1) (ci := 4) (v := .ref (md 0)) (C := RX5) (T := TX5) (N := 21) hx hb hts in_X5 hown hK hP 0 rfl rfl 0 (by decide) (hts _ q1727) (fun _ h9 => h9) rfl dX5_barredLines_14 ?_
        refine lv_bipush (v := nI 8) hx hb dX5_barredLines_17 (by decide) ?_
        refine lv_iload_n hx hb dX5_barredLines_19 rfl (lv_at hl 0 rfl) ?_
        refine n_iadd hx hb dX5_barredLines_20 ?_
        refine r_iald hx hb hK hP 1 3 rfl rfl (by omega) (by decide) dX5_barredLines_21 ?_
        refine eq_i (y := bI (pB v)) (gZ_b (by omega)) ?_
        refine lv_iadd hx hb dX5_barredLines_22 ?_
        refine eq_i (y := nI (n + (if pB v = true then 1 else 0))) (nI_bI n (pB v)) ?_
        refine lv_istore_n (lv' := [(1, .int (nI (n + (if pB v = true then 1 else 0)))), (2, .int (nI v)), (0, .ref mh)]) hx hb dX5_barredLines_23 rfl hl (by decide) rfl (fun ls hl => ?_)
        refine lv_iinc (v := nI (v + 1)) (lv' := [(2, .int (nI (v + 1))), (1, .int (nI (n + (if pB v = true then 1 else 0)))), (0, .ref mh)]) hx hb dX5_barredLines_24 hl (k := 1) rfl (nI_add _ _) (by decide) rfl (fun ls hl => ?_)
        refine lv_goto (tgt := 4) hx hb dX5_barredLines_27 (by decide) ?_
        exact ih4 (v + 1) (n + (if pB v = true then 1 else 0)) (by omega) (by omega) (by rw [hn]; rfl) _ _ _ hP hD hS (lv_sub hl [0, 1, 2] rfl)
  exact lp4 _ 0 0 (Nat.lt_succ_self _) (by omega) rfl _ _ _ hP hD hS (lv_sub hl [0, 1, 2] rfl)
set_option maxHeartbeats 4000000 in
set_option maxRecDepth 100000 in
theorem m_X5_boardOf (l : Launch) (G : GG) (mh : Nat) (md : Nat → Nat) (nr : Nat) (nc : Nat) (pL : Nat → Nat) (pG : Nat → Nat) (pB : Nat → Bool) (pk : Nat → Int32) (bf : Nat → Int32) (hi : Nat → Int32) (sv : Nat → Int32) (ch : Nat) (hs : Bool) (inp : Nat → Nat) (ty : Nat) (er : Int32) (wy : Int32) (wd : Int32) (rf : Bool) (lt : Nat → Nat) (ln : Nat) (th : Int32) (tr : Nat → Nat) (mv : Nat → Nat) (fo : Int32) (sp : Nat) (wr : Bool) (td : Nat → Int32) (wa : Int32) (hd : 2 ≤ nr ∧ nr ≤ 3 ∧ 2 ≤ nc ∧ nc ≤ 3) (hLR : ∀ q, q < nr * nc → 97 ≤ pL q ∧ pL q ≤ 108) (hKR : ∀ q, q < nr * nc → pG q = 46 ∨ (97 ≤ pG q ∧ pG q ≤ 108)) : MM l G yX5_boardOf cX5_boardOf 2 (some .int) ⟨3, 0, 0, 66⟩ [.ref mh, .int wa] (MW G mh md nr nc pL pG pB pk bf hi sv ch hs inp ty er wy wd rf lt ln th tr mv fo sp wr td) (Qi_ G (fun (r : Int32) (u : (Bool)) => r = (boV nr nc pL pG pB wa)) (fun (u : (Bool)) => (MW G mh md nr nc pL pG pB pk bf hi sv ch hs inp ty er wy wd u lt ln (bo1 wa) tr mv fo sp wr td))) := by
  refine MM.of (by decide) (Nat.le_of_ble_eq_true rfl) ?_
  intro p e s m args below meth cd A C hini hA hK hZ hP hD ls hl
  generalize hQ : MQ below ((Qi_ G (fun (r : Int32) (u : (Bool)) => r = (boV nr nc pL pG pB wa)) (fun (u : (Bool)) => (MW G mh md nr nc pL pG pB pk bf hi sv ch hs inp ty er wy wd u lt ln (bo1 wa) tr mv fo sp wr td))) A) args s (⟨3, 0, 0, 66⟩ : Room).cells (⟨3, 0, 0, 66⟩ : Room).slots A = Q
  obtain ⟨hx, hb, hr, hts, hown, hlk, hml⟩ := C
  have hown : s.vm.findClass RX5 = some m.cls := hown
  have hS : va_S A s.heap s.heap [] := va_S.rf
  have hl : lv_has ls 2 [(0, .ref mh), (1, .int wa)] := hl
  have hmu := dm_mul hd
  refine lv_iload_n hx hb dX5_boardOf_0 rfl (lv_at hl 1 rfl) ?_
  by_cases k1_0 : wa = nI 0
  · skip
    refine lv_tableIn (off := 43) (tgt := 44) hx hb dX5_boardOf_1 (by rw [k1_0]; decide) (by rw [k1_0]; decide) (by rw [k1_0]; decide) (by decide) ?_
    subst k1_0
    refine lv_aload_n hx hb dX5_boardOf_44 rfl (lv_at hl 0 rfl) ?_
    refine lv_aload_n hx hb dX5_boardOf_45 rfl (lv_at hl 0 rfl) ?_
    refine va_get (D := G.1) (ci := 4) (v := .ref (md 0)) (C := RX5) (T := TX5) (N := 21) hx hb hts in_X5 hown hK hP 0 rfl rfl 0 (by decide) (hts _ q1727) (fun _ h9 => h9) rfl dX5_boardOf_46 ?_
    refine lv_iload_n hx hb dX5_boardOf_49 rfl (lv_at hl 1 rfl) ?_
    refine r_iald hx hb hK hP 1 3 rfl rfl (by omega) (by decide) dX5_boardOf_50 ?_
    refine eq_i (y := nI nr) rfl ?_
    refine callVi (As := [.int (nI nr)]) (rest := []) (wc := (MW G mh md nr nc pL pG pB pk bf hi sv ch hs inp ty er wy wd rf lt ln th tr mv fo sp wr td)) (wr := ([] : va_W)) ⟨hx, hb, hml, hown, hts⟩ (m_X5_done l G mh md nr nc pL pG pB pk bf hi sv ch hs inp ty er wy wd rf lt ln th tr mv fo sp wr td (nI nr) ) (cwV 1 hts (lw_V q1821 q1823 qs39 q105 q1824) rfl rfl rfl (by decide +kernel) ⟨Nat.le_of_ble_eq_true rfl, Nat.le_of_ble_eq_true rfl⟩) hK hZ hA hP hD hS [0, 1, 2, 3, 4, 5, 6, 7, 8, 9] [] rfl rfl (by decide) (by decide) (by decide) 0 4 rfl rfl rfl hl.1 (Nat.le_of_ble_eq_true rfl) ⟨Nat.le_of_ble_eq_true rfl, Nat.le_of_ble_eq_true rfl⟩ rfl dX5_boardOf_51 (fun r9 u9 H locs hw9 hP hD hS => ?_)
    subst hw9
    have hP : va_P G.1 CL (MW G mh md nr nc pL pG pB pk bf hi sv ch hs inp ty er wy wd rf lt ln (nI 0) tr mv fo sp wr td) _ := hP
    have hD : va_D A (MW G mh md nr nc pL pG pB pk bf hi sv ch hs inp ty er wy wd rf lt ln (nI 0) tr mv fo sp wr td) := hD
    have e_th : (nI 0) = (bo1 (nI 0)) := (by first | rfl | (unfold bo1; rw [if_neg (by simp only [not_or]; exact ⟨k1_0, k1_1, k1_2, k1_3, k1_4, k1_5, k1_6⟩)]))
    rw [e_th] at hP hD
    subst hQ
    exact ret_i hx hb hr hlk rf (by first | rfl | (unfold boV; rw [if_neg (by decide), if_pos rfl])) hP hD hS rfl dX5_boardOf_54
  · skip
    by_cases k1_1 : wa = nI 1
    · skip
      refine lv_tableIn (off := 43) (tgt := 44) hx hb dX5_boardOf_1 (by rw [k1_1]; decide) (by rw [k1_1]; decide) (by rw [k1_1]; decide) (by decide) ?_
      subst k1_1
      refine lv_aload_n hx hb dX5_boardOf_44 rfl (lv_at hl 0 rfl) ?_
      refine lv_aload_n hx hb dX5_boardOf_45 rfl (lv_at hl 0 rfl) ?_
      refine va_get (D := G.1) (ci := 4) (v := .ref (md 0)) (C := RX5) (T := TX5) (N := 21) hx hb hts in_X5 hown hK hP 0 rfl rfl 0 (by decide) (hts _ q1727) (fun _ h9 => h9) rfl dX5_boardOf_46 ?_
      refine lv_iload_n hx hb dX5_boardOf_49 rfl (lv_at hl 1 rfl) ?_
      refine r_iald hx hb hK hP 1 3 rfl rfl (by omega) (by decide) dX5_boardOf_50 ?_
      refine eq_i (y := nI nc) rfl ?_
      refine callVi (As := [.int (nI nc)]) (rest := []) (wc := (MW G mh md nr nc pL pG pB pk bf hi sv ch hs inp ty er wy wd rf lt ln th tr mv fo sp wr td)) (wr := ([] : va_W)) ⟨hx, hb, hml, hown, hts⟩ (m_X5_done l G mh md nr nc pL pG pB pk bf hi sv ch hs inp ty er wy wd rf lt ln th tr mv fo sp wr td (nI nc) ) (cwV 1 hts (lw_V q1821 q1823 qs39 q105 q1824) rfl rfl rfl (by decide +kernel) ⟨Nat.le_of_ble_eq_true rfl, Nat.le_of_ble_eq_true rfl⟩) hK hZ hA hP hD hS [0, 1, 2, 3, 4, 5, 6, 7, 8, 9] [] rfl rfl (by decide) (by decide) (by decide) 0 4 rfl rfl rfl hl.1 (Nat.le_of_ble_eq_true rfl) ⟨Nat.le_of_ble_eq_true rfl, Nat.le_of_ble_eq_true rfl⟩ rfl dX5_boardOf_51 (fun r9 u9 H locs hw9 hP hD hS => ?_)
      subst hw9
      have hP : va_P G.1 CL (MW G mh md nr nc pL pG pB pk bf hi sv ch hs inp ty er wy wd rf lt ln (nI 0) tr mv fo sp wr td) _ := hP
      have hD : va_D A (MW G mh md nr nc pL pG pB pk bf hi sv ch hs inp ty er wy wd rf lt ln (nI 0) tr mv fo sp wr td) := hD
      have e_th : (nI 0) = (bo1 (nI 1)) := (by first | rfl | (unfold bo1; rw [if_neg (by simp only [not_or]; exact ⟨k1_0, k1_1, k1_2, k1_3, k1_4, k1_5, k1_6⟩)]))
      rw [e_th] at hP hD
      subst hQ
      exact ret_i hx hb hr hlk rf (by first | rfl | (unfold boV; rw [if_neg (by decide), if_pos rfl])) hP hD hS rfl dX5_boardOf_54
    · skip
      by_cases k1_2 : wa = nI 2
      · skip
        refine lv_tableIn (off := 54) (tgt := 55) hx hb dX5_boardOf_1 (by rw [k1_2]; decide) (by rw [k1_2]; decide) (by rw [k1_2]; decide) (by decide) ?_
        subst k1_2
        refine lv_aload_n hx hb dX5_boardOf_55 rfl (lv_at hl 0 rfl) ?_
        refine lv_iconst (v := nI 2) hx hb dX5_boardOf_56 (by decide) ?_
        refine lv_aload_n hx hb dX5_boardOf_57 rfl (lv_at hl 0 rfl) ?_
        refine callVi (As := []) (rest := [.int (nI 2), .ref mh]) (wc := (MW G mh md nr nc pL pG pB pk bf hi sv ch hs inp ty er wy wd rf lt ln th tr mv fo sp wr td)) (wr := ([] : va_W)) ⟨hx, hb, hml, hown, hts⟩ (m_X5_lines l G mh md nr nc pL pG pB pk bf hi sv ch hs inp ty er wy wd rf lt ln th tr mv fo sp wr td ) (cwV 0 hts (lw_V q1875 q1877 qs48 q105 q1878) rfl rfl rfl (by decide +kernel) ⟨Nat.le_of_ble_eq_true rfl, Nat.le_of_ble_eq_true rfl⟩) hK hZ hA hP hD hS [0, 1, 2, 3, 4, 5, 6, 7, 8, 9] [] rfl rfl (by decide) (by decide) (by decide) 0 4 rfl rfl rfl hl.1 (Nat.le_of_ble_eq_true rfl) ⟨Nat.le_of_ble_eq_true rfl, Nat.le_of_ble_eq_true rfl⟩ rfl dX5_boardOf_58 (fun r9 u9 H locs hw9 hP hD hS => ?_)
        subst hw9
        have hP : va_P G.1 CL (MW G mh md nr nc pL pG pB pk bf hi sv ch hs inp ty er wy wd rf lt ln th tr mv fo sp wr td) _ := hP
        have hD : va_D A (MW G mh md nr nc pL pG pB pk bf hi sv ch hs inp ty er wy wd rf lt ln th tr mv fo sp wr td) := hD
        refine n_imul hx hb dX5_boardOf_61 ?_
        refine callVi (As := [.int (nI (2 * (nr + nc)))]) (rest := []) (wc := (MW G mh md nr nc pL pG pB pk bf hi sv ch hs inp ty er wy wd rf lt ln th tr mv fo sp wr td)) (wr := ([] : va_W)) ⟨hx, hb, hml, hown, hts⟩ (m_X5_done l G mh md nr nc pL pG pB pk bf hi sv ch hs inp ty er wy wd rf lt ln th tr mv fo sp wr td (nI (2 * (nr + nc))) ) (cwV 1 hts (lw_V q1821 q1823 qs39 q105 q1824) rfl rfl rfl (by decide +kernel) ⟨Nat.le_of_ble_eq_true rfl, Nat.le_of_ble_eq_true rfl⟩) hK hZ hA hP hD hS [0, 1, 2, 3, 4, 5, 6, 7, 8, 9] [] rfl rfl (by decide) (by decide) (by decide) 0 4 rfl rfl rfl hl.1 (Nat.le_of_ble_eq_true rfl) ⟨Nat.le_of_ble_eq_true rfl, Nat.le_of_ble_eq_true rfl⟩ rfl dX5_boardOf_62 (fun r9 u9 H locs hw9 hP hD hS => ?_)
        subst hw9
        have hP : va_P G.1 CL (MW G mh md nr nc pL pG pB pk bf hi sv ch hs inp ty er wy wd rf lt ln (nI 0) tr mv fo sp wr td) _ := hP
        have hD : va_D A (MW G mh md nr nc pL pG pB pk bf hi sv ch hs inp ty er wy wd rf lt ln (nI 0) tr mv fo sp wr td) := hD
        have e_th : (nI 0) = (bo1 (nI 2)) := (by first | rfl | (unfold bo1; rw [if_neg (by simp only [not_or]; exact ⟨k1_0, k1_1, k1_2, k1_3, k1_4, k1_5, k1_6⟩)]))
        rw [e_th] at hP hD
        subst hQ
        exact ret_i hx hb hr hlk rf rfl hP hD hS rfl dX5_boardOf_65
      · skip
        by_cases k1_3 : wa = nI 3
        · skip
          refine lv_tableIn (off := 65) (tgt := 66) hx hb dX5_boardOf_1 (by rw [k1_3]; decide) (by rw [k1_3]; decide) (by rw [k1_3]; decide) (by decide) ?_
          subst k1_3
          refine lv_aload_n hx hb dX5_boardOf_66 rfl (lv_at hl 0 rfl) ?_
          refine lv_iconst (v := nI 2) hx hb dX5_boardOf_67 (by decide) ?_
          refine lv_aload_n hx hb dX5_boardOf_68 rfl (lv_at hl 0 rfl) ?_
          refine callVi (As := []) (rest := [.int (nI 2), .ref mh]) (wc := (MW G mh md nr nc pL pG pB pk bf hi sv ch hs inp ty er wy wd rf lt ln th tr mv fo sp wr td)) (wr := ([] : va_W)) ⟨hx, hb, hml, hown, hts⟩ (m_X5_lines l G mh md nr nc pL pG pB pk bf hi sv ch hs inp ty er wy wd rf lt ln th tr mv fo sp wr td ) (cwV 0 hts (lw_V q1875 q1877 qs48 q105 q1878) rfl rfl rfl (by decide +kernel) ⟨Nat.le_of_ble_eq_true rfl, Nat.le_of_ble_eq_true rfl⟩) hK hZ hA hP hD hS [0, 1, 2, 3, 4, 5, 6, 7, 8, 9] [] rfl rfl (by decide) (by decide) (by decide) 0 4 rfl rfl rfl hl.1 (Nat.le_of_ble_eq_true rfl) ⟨Nat.le_of_ble_eq_true rfl, Nat.le_of_ble_eq_true rfl⟩ rfl dX5_boardOf_69 (fun r9 u9 H locs hw9 hP hD hS => ?_)
          subst hw9
          have hP : va_P G.1 CL (MW G mh md nr nc pL pG pB pk bf hi sv ch hs inp ty er wy wd rf lt ln th tr mv fo sp wr td) _ := hP
          have hD : va_D A (MW G mh md nr nc pL pG pB pk bf hi sv ch hs inp ty er wy wd rf lt ln th tr mv fo sp wr td) := hD
          refine lv_aload_n hx hb dX5_boardOf_72 rfl (lv_at hl 0 rfl) ?_
          refine callVi (As := []) (rest := [.int (nI (nr + nc)), .int (nI 2), .ref mh]) (wc := (MW G mh md nr nc pL pG pB pk bf hi sv ch hs inp ty er wy wd rf lt ln th tr mv fo sp wr td)) (wr := ([] : va_W)) ⟨hx, hb, hml, hown, hts⟩ (m_X5_barredLines l G mh md nr nc pL pG pB pk bf hi sv ch hs inp ty er wy wd rf lt ln th tr mv fo sp wr td (by first | assumption | omega)) (cwV 0 hts (lw_V q2011 q2013 qs70 q105 q2014) rfl rfl rfl (by decide +kernel) ⟨Nat.le_of_ble_eq_true rfl, Nat.le_of_ble_eq_true rfl⟩) hK hZ hA hP hD hS [0, 1, 2, 3, 4, 5, 6, 7, 8, 9] [] rfl rfl (by decide) (by decide) (by decide) 0 4 rfl rfl rfl hl.1 (Nat.le_of_ble_eq_true rfl) ⟨Nat.le_of_ble_eq_true rfl, Nat.le_of_ble_eq_true rfl⟩ rfl dX5_boardOf_73 (fun r9 u9 H locs hw9 hP hD hS => ?_)
          subst hw9
          have hP : va_P G.1 CL (MW G mh md nr nc pL pG pB pk bf hi sv ch hs inp ty er wy wd rf lt ln th tr mv fo sp wr td) _ := hP
          have hD : va_D A (MW G mh md nr nc pL pG pB pk bf hi sv ch hs inp ty er wy wd rf lt ln th tr mv fo sp wr td) := hD
          refine n_isub hx hb (by have := cn_le pB (nr + nc); omega) dX5_boardOf_76 ?_
          refine n_imul hx hb dX5_boardOf_77 ?_
          refine callVi (As := [.int (nI (2 * ((nr + nc) - (cn pB (nr + nc)))))]) (rest := []) (wc := (MW G mh md nr nc pL pG pB pk bf hi sv ch hs inp ty er wy wd rf lt ln th tr mv fo sp wr td)) (wr := ([] : va_W)) ⟨hx, hb, hml, hown, hts⟩ (m_X5_done l G mh md nr nc pL pG pB pk bf hi sv ch hs inp ty er wy wd rf lt ln th tr mv fo sp wr td (nI (2 * ((nr + nc) - (cn pB (nr + nc))))) ) (cwV 1 hts (lw_V q1821 q1823 qs39 q105 q1824) rfl rfl rfl (by decide +kernel) ⟨Nat.le_of_ble_eq_true rfl, Nat.le_of_ble_eq_true rfl⟩) hK hZ hA hP hD hS [0, 1, 2, 3, 4, 5, 6, 7, 8, 9] [] rfl rfl (by decide) (by decide) (by decide) 0 4 rfl rfl rfl hl.1 (Nat.le_of_ble_eq_true rfl) ⟨Nat.le_of_ble_eq_true rfl, Nat.le_of_ble_eq_true rfl⟩ rfl dX5_boardOf_78 (fun r9 u9 H locs hw9 hP hD hS => ?_)
          subst hw9
          have hP : va_P G.1 CL (MW G mh md nr nc pL pG pB pk bf hi sv ch hs inp ty er wy wd rf lt ln (nI 0) tr mv fo sp wr td) _ := hP
          have hD : va_D A (MW G mh md nr nc pL pG pB pk bf hi sv ch hs inp ty er wy wd rf lt ln (nI 0) tr mv fo sp wr td) := hD
          have e_th : (nI 0) = (bo1 (nI 3)) := (by first | rfl | (unfold bo1; rw [if_neg (by simp only [not_or]; exact ⟨k1_0, k1_1, k1_2, k1_3, k1_4, k1_5, k1_6⟩)]))
          rw [e_th] at hP hD
          subst hQ
          exact ret_i hx hb hr hlk rf (by show _ = nI (2 * cn (fun k => !pB k) (nr + nc)); have := cn_not pB (nr + nc); rw [show nr + nc - cn pB (nr + nc) = cn (fun k => !pB k) (nr + nc) by omega]) hP hD hS rfl dX5_boardOf_81
        · skip
          by_cases k1_4 : wa = nI 4
          · skip
            refine lv_tableIn (off := 81) (tgt := 82) hx hb dX5_boardOf_1 (by rw [k1_4]; decide) (by rw [k1_4]; decide) (by rw [k1_4]; decide) (by decide) ?_
            subst k1_4
            refine lv_aload_n hx hb dX5_boardOf_82 rfl (lv_at hl 0 rfl) ?_
            refine lv_aload_n hx hb dX5_boardOf_83 rfl (lv_at hl 0 rfl) ?_
            refine callVi (As := []) (rest := [.ref mh]) (wc := (MW G mh md nr nc pL pG pB pk bf hi sv ch hs inp ty er wy wd rf lt ln th tr mv fo sp wr td)) (wr := ([] : va_W)) ⟨hx, hb, hml, hown, hts⟩ (m_X5_unlike l G mh md nr nc pL pG pB pk bf hi sv ch hs inp ty er wy wd rf lt ln th tr mv fo sp wr td (by first | assumption | omega) (by first | assumption | omega)) (cwV 0 hts (lw_V q1975 q1977 qs67 q105 q1978) rfl rfl rfl (by decide +kernel) ⟨Nat.le_of_ble_eq_true rfl, Nat.le_of_ble_eq_true rfl⟩) hK hZ hA hP hD hS [0, 1, 2, 3, 4, 5, 6, 7, 8, 9] [] rfl rfl (by decide) (by decide) (by decide) 0 4 rfl rfl rfl hl.1 (Nat.le_of_ble_eq_true rfl) ⟨Nat.le_of_ble_eq_true rfl, Nat.le_of_ble_eq_true rfl⟩ rfl dX5_boardOf_84 (fun r9 u9 H locs hw9 hP hD hS => ?_)
            subst hw9
            have hP : va_P G.1 CL (MW G mh md nr nc pL pG pB pk bf hi sv ch hs inp ty er wy wd rf lt ln th tr mv fo sp wr td) _ := hP
            have hD : va_D A (MW G mh md nr nc pL pG pB pk bf hi sv ch hs inp ty er wy wd rf lt ln th tr mv fo sp wr td) := hD
            refine callVi (As := [.int (nI (ul pL (nr * nc)))]) (rest := []) (wc := (MW G mh md nr nc pL pG pB pk bf hi sv ch hs inp ty er wy wd rf lt ln th tr mv fo sp wr td)) (wr := ([] : va_W)) ⟨hx, hb, hml, hown, hts⟩ (m_X5_done l G mh md nr nc pL pG pB pk bf hi sv ch hs inp ty er wy wd rf lt ln th tr mv fo sp wr td (nI (ul pL (nr * nc))) ) (cwV 1 hts (lw_V q1821 q1823 qs39 q105 q1824) rfl rfl rfl (by decide +kernel) ⟨Nat.le_of_ble_eq_true rfl, Nat.le_of_ble_eq_true rfl⟩) hK hZ hA hP hD hS [0, 1, 2, 3, 4, 5, 6, 7, 8, 9] [] rfl rfl (by decide) (by decide) (by decide) 0 4 rfl rfl rfl hl.1 (Nat.le_of_ble_eq_true rfl) ⟨Nat.le_of_ble_eq_true rfl, Nat.le_of_ble_eq_true rfl⟩ rfl dX5_boardOf_87 (fun r9 u9 H locs hw9 hP hD hS => ?_)
            subst hw9
            have hP : va_P G.1 CL (MW G mh md nr nc pL pG pB pk bf hi sv ch hs inp ty er wy wd rf lt ln (nI 0) tr mv fo sp wr td) _ := hP
            have hD : va_D A (MW G mh md nr nc pL pG pB pk bf hi sv ch hs inp ty er wy wd rf lt ln (nI 0) tr mv fo sp wr td) := hD
            have e_th : (nI 0) = (bo1 (nI 4)) := (by first | rfl | (unfold bo1; rw [if_neg (by simp only [not_or]; exact ⟨k1_0, k1_1, k1_2, k1_3, k1_4, k1_5, k1_6⟩)]))
            rw [e_th] at hP hD
            subst hQ
            exact ret_i hx hb hr hlk rf rfl hP hD hS rfl dX5_boardOf_90
          · skip
            by_cases k1_5 : wa = nI 5
            · skip
              refine lv_tableIn (off := 90) (tgt := 91) hx hb dX5_boardOf_1 (by rw [k1_5]; decide) (by rw [k1_5]; decide) (by rw [k1_5]; decide) (by decide) ?_
              subst k1_5
              refine lv_aload_n hx hb dX5_boardOf_91 rfl (lv_at hl 0 rfl) ?_
              refine lv_aload_n hx hb dX5_boardOf_92 rfl (lv_at hl 0 rfl) ?_
              refine lv_bipush (v := nI 14) hx hb dX5_boardOf_93 (by decide) ?_
              refine lv_iconst (v := nI 0) hx hb dX5_boardOf_95 (by decide) ?_
              refine callVi (As := [.int (nI 14), .int (nI 0)]) (rest := [.ref mh]) (wc := (MW G mh md nr nc pL pG pB pk bf hi sv ch hs inp ty er wy wd rf lt ln th tr mv fo sp wr td)) (wr := ([] : va_W)) ⟨hx, hb, hml, hown, hts⟩ (m_X5_timesOf__L l G mh md nr nc pL pG pB pk bf hi sv ch hs inp ty er wy wd rf lt ln th tr mv fo sp wr td 0 (by first | assumption | omega) (by first | assumption | omega) (by first | assumption | omega)) (cwV 2 hts (lw_V q1971 q1973 qs66 q105 q1974) rfl rfl rfl (by decide +kernel) ⟨Nat.le_of_ble_eq_true rfl, Nat.le_of_ble_eq_true rfl⟩) hK hZ hA hP hD hS [0, 1, 2, 3, 4, 5, 6, 7, 8, 9] [] rfl rfl (by decide) (by decide) (by decide) 0 4 rfl rfl rfl hl.1 (Nat.le_of_ble_eq_true rfl) ⟨Nat.le_of_ble_eq_true rfl, Nat.le_of_ble_eq_true rfl⟩ rfl dX5_boardOf_96 (fun r9 u9 H locs hw9 hP hD hS => ?_)
              subst hw9
              have hP : va_P G.1 CL (MW G mh md nr nc pL pG pB pk bf hi sv ch hs inp ty er wy wd rf lt ln th tr mv fo sp wr td) _ := hP
              have hD : va_D A (MW G mh md nr nc pL pG pB pk bf hi sv ch hs inp ty er wy wd rf lt ln th tr mv fo sp wr td) := hD
              refine lv_aload_n hx hb dX5_boardOf_99 rfl (lv_at hl 0 rfl) ?_
              refine lv_bipush (v := nI 14) hx hb dX5_boardOf_100 (by decide) ?_
              refine lv_iconst (v := nI 4) hx hb dX5_boardOf_102 (by decide) ?_
              refine callVi (As := [.int (nI 14), .int (nI 4)]) (rest := [.int (nI (tm pL (nr * nc) (97 + 0))), .ref mh]) (wc := (MW G mh md nr nc pL pG pB pk bf hi sv ch hs inp ty er wy wd rf lt ln th tr mv fo sp wr td)) (wr := ([] : va_W)) ⟨hx, hb, hml, hown, hts⟩ (m_X5_timesOf__L l G mh md nr nc pL pG pB pk bf hi sv ch hs inp ty er wy wd rf lt ln th tr mv fo sp wr td 4 (by first | assumption | omega) (by first | assumption | omega) (by first | assumption | omega)) (cwV 2 hts (lw_V q1971 q1973 qs66 q105 q1974) rfl rfl rfl (by decide +kernel) ⟨Nat.le_of_ble_eq_true rfl, Nat.le_of_ble_eq_true rfl⟩) hK hZ hA hP hD hS [0, 1, 2, 3, 4, 5, 6, 7, 8, 9] [] rfl rfl (by decide) (by decide) (by decide) 0 4 rfl rfl rfl hl.1 (Nat.le_of_ble_eq_true rfl) ⟨Nat.le_of_ble_eq_true rfl, Nat.le_of_ble_eq_true rfl⟩ rfl dX5_boardOf_103 (fun r9 u9 H locs hw9 hP hD hS => ?_)
              subst hw9
              have hP : va_P G.1 CL (MW G mh md nr nc pL pG pB pk bf hi sv ch hs inp ty er wy wd rf lt ln th tr mv fo sp wr td) _ := hP
              have hD : va_D A (MW G mh md nr nc pL pG pB pk bf hi sv ch hs inp ty er wy wd rf lt ln th tr mv fo sp wr td) := hD
              refine n_iadd hx hb dX5_boardOf_106 ?_
              refine lv_aload_n hx hb dX5_boardOf_107 rfl (lv_at hl 0 rfl) ?_
              refine lv_bipush (v := nI 14) hx hb dX5_boardOf_108 (by decide) ?_
              refine lv_bipush (v := nI 8) hx hb dX5_boardOf_110 (by decide) ?_
              refine callVi (As := [.int (nI 14), .int (nI 8)]) (rest := [.int (nI ((tm pL (nr * nc) (97 + 0)) + (tm pL (nr * nc) (97 + 4)))), .ref mh]) (wc := (MW G mh md nr nc pL pG pB pk bf hi sv ch hs inp ty er wy wd rf lt ln th tr mv fo sp wr td)) (wr := ([] : va_W)) ⟨hx, hb, hml, hown, hts⟩ (m_X5_timesOf__L l G mh md nr nc pL pG pB pk bf hi sv ch hs inp ty er wy wd rf lt ln th tr mv fo sp wr td 8 (by first | assumption | omega) (by first | assumption | omega) (by first | assumption | omega)) (cwV 2 hts (lw_V q1971 q1973 qs66 q105 q1974) rfl rfl rfl (by decide +kernel) ⟨Nat.le_of_ble_eq_true rfl, Nat.le_of_ble_eq_true rfl⟩) hK hZ hA hP hD hS [0, 1, 2, 3, 4, 5, 6, 7, 8, 9] [] rfl rfl (by decide) (by decide) (by decide) 0 4 rfl rfl rfl hl.1 (Nat.le_of_ble_eq_true rfl) ⟨Nat.le_of_ble_eq_true rfl, Nat.le_of_ble_eq_true rfl⟩ rfl dX5_boardOf_112 (fun r9 u9 H locs hw9 hP hD hS => ?_)
              subst hw9
              have hP : va_P G.1 CL (MW G mh md nr nc pL pG pB pk bf hi sv ch hs inp ty er wy wd rf lt ln th tr mv fo sp wr td) _ := hP
              have hD : va_D A (MW G mh md nr nc pL pG pB pk bf hi sv ch hs inp ty er wy wd rf lt ln th tr mv fo sp wr td) := hD
              refine n_iadd hx hb dX5_boardOf_115 ?_
              refine callVi (As := [.int (nI (((tm pL (nr * nc) (97 + 0)) + (tm pL (nr * nc) (97 + 4))) + (tm pL (nr * nc) (97 + 8))))]) (rest := []) (wc := (MW G mh md nr nc pL pG pB pk bf hi sv ch hs inp ty er wy wd rf lt ln th tr mv fo sp wr td)) (wr := ([] : va_W)) ⟨hx, hb, hml, hown, hts⟩ (m_X5_done l G mh md nr nc pL pG pB pk bf hi sv ch hs inp ty er wy wd rf lt ln th tr mv fo sp wr td (nI (((tm pL (nr * nc) (97 + 0)) + (tm pL (nr * nc) (97 + 4))) + (tm pL (nr * nc) (97 + 8)))) ) (cwV 1 hts (lw_V q1821 q1823 qs39 q105 q1824) rfl rfl rfl (by decide +kernel) ⟨Nat.le_of_ble_eq_true rfl, Nat.le_of_ble_eq_true rfl⟩) hK hZ hA hP hD hS [0, 1, 2, 3, 4, 5, 6, 7, 8, 9] [] rfl rfl (by decide) (by decide) (by decide) 0 4 rfl rfl rfl hl.1 (Nat.le_of_ble_eq_true rfl) ⟨Nat.le_of_ble_eq_true rfl, Nat.le_of_ble_eq_true rfl⟩ rfl dX5_boardOf_116 (fun r9 u9 H locs hw9 hP hD hS => ?_)
              subst hw9
              have hP : va_P G.1 CL (MW G mh md nr nc pL pG pB pk bf hi sv ch hs inp ty er wy wd rf lt ln (nI 0) tr mv fo sp wr td) _ := hP
              have hD : va_D A (MW G mh md nr nc pL pG pB pk bf hi sv ch hs inp ty er wy wd rf lt ln (nI 0) tr mv fo sp wr td) := hD
              have e_th : (nI 0) = (bo1 (nI 5)) := (by first | rfl | (unfold bo1; rw [if_neg (by simp only [not_or]; exact ⟨k1_0, k1_1, k1_2, k1_3, k1_4, k1_5, k1_6⟩)]))
              rw [e_th] at hP hD
              subst hQ
              exact ret_i hx hb hr hlk rf (by show _ = nI (cn (fun k => vw (pL k)) (nr * nc)); rw [← vw_sum hLR]) hP hD hS rfl dX5_boardOf_119
            · skip
              by_cases k1_6 : wa = nI 6
              · skip
                refine lv_tableIn (off := 119) (tgt := 120) hx hb dX5_boardOf_1 (by rw [k1_6]; decide) (by rw [k1_6]; decide) (by rw [k1_6]; decide) (by decide) ?_
                subst k1_6
                refine lv_aload_n hx hb dX5_boardOf_120 rfl (lv_at hl 0 rfl) ?_
                refine lv_aload_n hx hb dX5_boardOf_121 rfl (lv_at hl 0 rfl) ?_
                refine lv_bipush (v := nI 23) hx hb dX5_boardOf_122 (by decide) ?_
                refine lv_iconst (v := (-1)) hx hb dX5_boardOf_124 (by decide) ?_
                refine callVi (As := [.int (nI 23), .int (-1)]) (rest := [.ref mh]) (wc := (MW G mh md nr nc pL pG pB pk bf hi sv ch hs inp ty er wy wd rf lt ln th tr mv fo sp wr td)) (wr := ([] : va_W)) ⟨hx, hb, hml, hown, hts⟩ (m_X5_timesOf__F l G mh md nr nc pL pG pB pk bf hi sv ch hs inp ty er wy wd rf lt ln th tr mv fo sp wr td (by first | assumption | omega) (by first | assumption | omega)) (cwV 2 hts (lw_V q1971 q1973 qs66 q105 q1974) rfl rfl rfl (by decide +kernel) ⟨Nat.le_of_ble_eq_true rfl, Nat.le_of_ble_eq_true rfl⟩) hK hZ hA hP hD hS [0, 1, 2, 3, 4, 5, 6, 7, 8, 9] [] rfl rfl (by decide) (by decide) (by decide) 0 4 rfl rfl rfl hl.1 (Nat.le_of_ble_eq_true rfl) ⟨Nat.le_of_ble_eq_true rfl, Nat.le_of_ble_eq_true rfl⟩ rfl dX5_boardOf_125 (fun r9 u9 H locs hw9 hP hD hS => ?_)
                subst hw9
                have hP : va_P G.1 CL (MW G mh md nr nc pL pG pB pk bf hi sv ch hs inp ty er wy wd rf lt ln th tr mv fo sp wr td) _ := hP
                have hD : va_D A (MW G mh md nr nc pL pG pB pk bf hi sv ch hs inp ty er wy wd rf lt ln th tr mv fo sp wr td) := hD
                refine callVi (As := [.int (nI (tm pG (nr * nc) 46))]) (rest := []) (wc := (MW G mh md nr nc pL pG pB pk bf hi sv ch hs inp ty er wy wd rf lt ln th tr mv fo sp wr td)) (wr := ([] : va_W)) ⟨hx, hb, hml, hown, hts⟩ (m_X5_done l G mh md nr nc pL pG pB pk bf hi sv ch hs inp ty er wy wd rf lt ln th tr mv fo sp wr td (nI (tm pG (nr * nc) 46)) ) (cwV 1 hts (lw_V q1821 q1823 qs39 q105 q1824) rfl rfl rfl (by decide +kernel) ⟨Nat.le_of_ble_eq_true rfl, Nat.le_of_ble_eq_true rfl⟩) hK hZ hA hP hD hS [0, 1, 2, 3, 4, 5, 6, 7, 8, 9] [] rfl rfl (by decide) (by decide) (by decide) 0 4 rfl rfl rfl hl.1 (Nat.le_of_ble_eq_true rfl) ⟨Nat.le_of_ble_eq_true rfl, Nat.le_of_ble_eq_true rfl⟩ rfl dX5_boardOf_128 (fun r9 u9 H locs hw9 hP hD hS => ?_)
                subst hw9
                have hP : va_P G.1 CL (MW G mh md nr nc pL pG pB pk bf hi sv ch hs inp ty er wy wd rf lt ln (nI 0) tr mv fo sp wr td) _ := hP
                have hD : va_D A (MW G mh md nr nc pL pG pB pk bf hi sv ch hs inp ty er wy wd rf lt ln (nI 0) tr mv fo sp wr td) := hD
                have e_th : (nI 0) = (bo1 (nI 6)) := (by first | rfl | (unfold bo1; rw [if_neg (by simp only [not_or]; exact ⟨k1_0, k1_1, k1_2, k1_3, k1_4, k1_5, k1_6⟩)]))
                rw [e_th] at hP hD
                subst hQ
                exact ret_i hx hb hr hlk rf rfl hP hD hS rfl dX5_boardOf_131
              · skip
                refine lv_tableOut (tgt := 132) hx hb dX5_boardOf_1 (by have := lv_neT k1_0 (show (nI 0 : Int32).toInt = 0 by decide); have := lv_neT k1_1 (show (nI 1 : Int32).toInt = 1 by decide); have := lv_neT k1_2 (show (nI 2 : Int32).toInt = 2 by decide); have := lv_neT k1_3 (show (nI 3 : Int32).toInt = 3 by decide); have := lv_neT k1_4 (show (nI 4 : Int32).toInt = 4 by decide); have := lv_neT k1_5 (show (nI 5 : Int32).toInt = 5 by decide); have := lv_neT k1_6 (show (nI 6 : Int32).toInt = 6 by decide); omega) (by decide) ?_
                refine lv_aload_n hx hb dX5_boardOf_132 rfl (lv_at hl 0 rfl) ?_
                refine lv_iconst (v := nI 1) hx hb dX5_boardOf_133 (by decide) ?_
                refine callVi (As := [.int (nI 1)]) (rest := []) (wc := (MW G mh md nr nc pL pG pB pk bf hi sv ch hs inp ty er wy wd rf lt ln th tr mv fo sp wr td)) (wr := ([] : va_W)) ⟨hx, hb, hml, hown, hts⟩ (m_X5_fails l G mh md nr nc pL pG pB pk bf hi sv ch hs inp ty er wy wd rf lt ln th tr mv fo sp wr td (nI 1) ) (cwV 1 hts (lw_V q1813 q1815 qs37 q105 q1816) rfl rfl rfl (by decide +kernel) ⟨Nat.le_of_ble_eq_true rfl, Nat.le_of_ble_eq_true rfl⟩) hK hZ hA hP hD hS [0, 1, 2, 3, 4, 5, 6, 7, 8, 9] [] rfl rfl (by decide) (by decide) (by decide) 0 4 rfl rfl rfl hl.1 (Nat.le_of_ble_eq_true rfl) ⟨Nat.le_of_ble_eq_true rfl, Nat.le_of_ble_eq_true rfl⟩ rfl dX5_boardOf_134 (fun r9 u9 H locs hw9 hP hD hS => ?_)
                subst hw9
                have hP : va_P G.1 CL (MW G mh md nr nc pL pG pB pk bf hi sv ch hs inp ty er wy wd false lt ln (nI 1) tr mv fo sp wr td) _ := hP
                have hD : va_D A (MW G mh md nr nc pL pG pB pk bf hi sv ch hs inp ty er wy wd false lt ln (nI 1) tr mv fo sp wr td) := hD
                have e_th : (nI 1) = (bo1 wa) := (by first | rfl | (unfold bo1; rw [if_neg (by simp only [not_or]; exact ⟨k1_0, k1_1, k1_2, k1_3, k1_4, k1_5, k1_6⟩)]))
                rw [e_th] at hP hD
                subst hQ
                exact ret_i hx hb hr hlk false (by unfold boV; rw [if_neg k1_0, if_neg k1_1, if_neg k1_2, if_neg k1_3, if_neg k1_4, if_neg k1_5, if_neg k1_6]) hP hD hS rfl dX5_boardOf_137
set_option maxHeartbeats 4000000 in
set_option maxRecDepth 100000 in
theorem m_X5_home (l : Launch) (G : GG) (mh : Nat) (md : Nat → Nat) (nr : Nat) (nc : Nat) (pL : Nat → Nat) (pG : Nat → Nat) (pB : Nat → Bool) (pk : Nat → Int32) (bf : Nat → Int32) (hi : Nat → Int32) (sv : Nat → Int32) (ch : Nat) (hs : Bool) (inp : Nat → Nat) (ty : Nat) (er : Int32) (wy : Int32) (wd : Int32) (rf : Bool) (lt : Nat → Nat) (ln : Nat) (th : Int32) (tr : Nat → Nat) (mv : Nat → Nat) (fo : Int32) (sp : Nat) (wr : Bool) (td : Nat → Int32) (hd : 2 ≤ nr ∧ nr ≤ 3 ∧ 2 ≤ nc ∧ nc ≤ 3) (hLR : ∀ q, q < nr * nc → 97 ≤ pL q ∧ pL q ≤ 108) (hKR : ∀ q, q < nr * nc → pG q = 46 ∨ (97 ≤ pG q ∧ pG q ≤ 108)) : MM l G yX5_home cX5_home 1 (some .int) ⟨3, 0, 0, 62⟩ [.ref mh] (MW G mh md nr nc pL pG pB pk bf hi sv ch hs inp ty er wy wd rf lt ln th tr mv fo sp wr td) (Qi_ G (fun (r : Int32) (u : (Nat → Nat)) => r = nI (hm nr nc pL pG)) (fun (u : (Nat → Nat)) => (MW G mh md nr nc pL pG pB pk bf hi sv ch hs inp ty er wy wd rf lt ln (nI 0) u mv fo sp wr td))) := by
  refine MM.of (by decide) (Nat.le_of_ble_eq_true rfl) ?_
  intro p e s m args below meth cd A C hini hA hK hZ hP hD ls hl
  generalize hQ : MQ below ((Qi_ G (fun (r : Int32) (u : (Nat → Nat)) => r = nI (hm nr nc pL pG)) (fun (u : (Nat → Nat)) => (MW G mh md nr nc pL pG pB pk bf hi sv ch hs inp ty er wy wd rf lt ln (nI 0) u mv fo sp wr td))) A) args s (⟨3, 0, 0, 62⟩ : Room).cells (⟨3, 0, 0, 62⟩ : Room).slots A = Q
  obtain ⟨hx, hb, hr, hts, hown, hlk, hml⟩ := C
  have hown : s.vm.findClass RX5 = some m.cls := hown
  have hS : va_S A s.heap s.heap [] := va_S.rf
  have hl : lv_has ls 1 [(0, .ref mh)] := hl
  have hmu := dm_mul hd
  refine lv_aload_n hx hb dX5_home_0 rfl (lv_at hl 0 rfl) ?_
  refine lv_aload_n hx hb dX5_home_1 rfl (lv_at hl 0 rfl) ?_
  refine callVi (As := []) (rest := [.ref mh]) (wc := (MW G mh md nr nc pL pG pB pk bf hi sv ch hs inp ty er wy wd rf lt ln th tr mv fo sp wr td)) (wr := ([] : va_W)) ⟨hx, hb, hml, hown, hts⟩ (m_X5_homes l G mh md nr nc pL pG pB pk bf hi sv ch hs inp ty er wy wd rf lt ln th tr mv fo sp wr td (by first | assumption | omega) (by first | assumption | omega) (by first | assumption | omega)) (cwV 0 hts (lw_V q1887 q1889 qs51 q105 q1890) rfl rfl rfl (by decide +kernel) ⟨Nat.le_of_ble_eq_true rfl, Nat.le_of_ble_eq_true rfl⟩) hK hZ hA hP hD hS [0, 1, 2, 3, 4, 5, 6, 7, 8, 9] [] rfl rfl (by decide) (by decide) (by decide) 0 4 rfl rfl rfl hl.1 (Nat.le_of_ble_eq_true rfl) ⟨Nat.le_of_ble_eq_true rfl, Nat.le_of_ble_eq_true rfl⟩ rfl dX5_home_2 (fun r9 u9 H locs hw9 hP hD hS => ?_)
  obtain ⟨tr1_1, e9⟩ : ∃ z, z = u9 := ⟨_, rfl⟩
  subst e9
  obtain ⟨hr9, hw2⟩ := hw9
  subst hr9
  have hw2 : ∀ q, q < nr * nc → tr1_1 q = pL q - 97 := hw2
  have hP : va_P G.1 CL (MW G mh md nr nc pL pG pB pk bf hi sv ch hs inp ty er wy wd rf lt ln th tr1_1 mv fo sp wr td) _ := hP
  have hD : va_D A (MW G mh md nr nc pL pG pB pk bf hi sv ch hs inp ty er wy wd rf lt ln th tr1_1 mv fo sp wr td) := hD
  refine callVi (As := [.int (nI (hm nr nc pL pG))]) (rest := []) (wc := (MW G mh md nr nc pL pG pB pk bf hi sv ch hs inp ty er wy wd rf lt ln th tr1_1 mv fo sp wr td)) (wr := ([] : va_W)) ⟨hx, hb, hml, hown, hts⟩ (m_X5_done l G mh md nr nc pL pG pB pk bf hi sv ch hs inp ty er wy wd rf lt ln th tr1_1 mv fo sp wr td (nI (hm nr nc pL pG)) ) (cwV 1 hts (lw_V q1821 q1823 qs39 q105 q1824) rfl rfl rfl (by decide +kernel) ⟨Nat.le_of_ble_eq_true rfl, Nat.le_of_ble_eq_true rfl⟩) hK hZ hA hP hD hS [0, 1, 2, 3, 4, 5, 6, 7, 8, 9] [] rfl rfl (by decide) (by decide) (by decide) 0 4 rfl rfl rfl hl.1 (Nat.le_of_ble_eq_true rfl) ⟨Nat.le_of_ble_eq_true rfl, Nat.le_of_ble_eq_true rfl⟩ rfl dX5_home_5 (fun r9 u9 H locs hw9 hP hD hS => ?_)
  subst hw9
  have hP : va_P G.1 CL (MW G mh md nr nc pL pG pB pk bf hi sv ch hs inp ty er wy wd rf lt ln (nI 0) tr1_1 mv fo sp wr td) _ := hP
  have hD : va_D A (MW G mh md nr nc pL pG pB pk bf hi sv ch hs inp ty er wy wd rf lt ln (nI 0) tr1_1 mv fo sp wr td) := hD
  subst hQ
  exact ret_i hx hb hr hlk tr1_1 rfl hP hD hS rfl dX5_home_8
set_option maxHeartbeats 4000000 in
set_option maxRecDepth 100000 in
theorem m_X5_homeBehind (l : Launch) (G : GG) (mh : Nat) (md : Nat → Nat) (nr : Nat) (nc : Nat) (pL : Nat → Nat) (pG : Nat → Nat) (pB : Nat → Bool) (pk : Nat → Int32) (bf : Nat → Int32) (hi : Nat → Int32) (sv : Nat → Int32) (ch : Nat) (hs : Bool) (inp : Nat → Nat) (ty : Nat) (er : Int32) (wy : Int32) (wd : Int32) (rf : Bool) (lt : Nat → Nat) (ln : Nat) (th : Int32) (tr : Nat → Nat) (mv : Nat → Nat) (fo : Int32) (sp : Nat) (wr : Bool) (td : Nat → Int32) (tt : Nat) (hd : 2 ≤ nr ∧ nr ≤ 3 ∧ 2 ≤ nc ∧ nc ≤ 3) (ht0 : tt < 2 * (nr + nc)) (hLR : ∀ q, q < nr * nc → 97 ≤ pL q ∧ pL q ≤ 108) (hKR : ∀ q, q < nr * nc → pG q = 46 ∨ (97 ≤ pG q ∧ pG q ≤ 108)) : MM l G yX5_homeBehind cX5_homeBehind 2 (some .int) ⟨2, 0, 0, 48⟩ [.ref mh, .int (nI tt)] (MW G mh md nr nc pL pG pB pk bf hi sv ch hs inp ty er wy wd rf lt ln th tr mv fo sp wr td) (Qi_ G (fun (r : Int32) (u : (Nat → Nat) × (Nat → Nat)) => r = nI (hm nr nc (tn nr nc tt pL) pG)) (fun (u : (Nat → Nat) × (Nat → Nat)) => (MW G mh md nr nc pL pG pB pk bf hi sv ch hs inp ty er wy wd rf lt ln th u.1 u.2 fo sp wr td))) := by
  refine MM.of (by decide) (Nat.le_of_ble_eq_true rfl) ?_
  intro p e s m args below meth cd A C hini hA hK hZ hP hD ls hl
  generalize hQ : MQ below ((Qi_ G (fun (r : Int32) (u : (Nat → Nat) × (Nat → Nat)) => r = nI (hm nr nc (tn nr nc tt pL) pG)) (fun (u : (Nat → Nat) × (Nat → Nat)) => (MW G mh md nr nc pL pG pB pk bf hi sv ch hs inp ty er wy wd rf lt ln th u.1 u.2 fo sp wr td))) A) args s (⟨2, 0, 0, 48⟩ : Room).cells (⟨2, 0, 0, 48⟩ : Room).slots A = Q
  obtain ⟨hx, hb, hr, hts, hown, hlk, hml⟩ := C
  have hown : s.vm.findClass RX5 = some m.cls := hown
  have hS : va_S A s.heap s.heap [] := va_S.rf
  have hl : lv_has ls 2 [(0, .ref mh), (1, .int (nI tt))] := hl
  have hmu := dm_mul hd
  refine lv_aload_n hx hb dX5_homeBehind_0 rfl (lv_at hl 0 rfl) ?_
  refine callVv (As := []) (rest := []) (wc := (MW G mh md nr nc pL pG pB pk bf hi sv ch hs inp ty er wy wd rf lt ln th tr mv fo sp wr td)) (wr := ([] : va_W)) ⟨hx, hb, hml, hown, hts⟩ (m_X5_tries l G mh md nr nc pL pG pB pk bf hi sv ch hs inp ty er wy wd rf lt ln th tr mv fo sp wr td (by first | assumption | omega) (by first | assumption | omega)) (cwV 0 hts (lw_V q1891 q1893 qs52 q105 q1894) rfl rfl rfl (by decide +kernel) ⟨Nat.le_of_ble_eq_true rfl, Nat.le_of_ble_eq_true rfl⟩) hK hZ hA hP hD hS [0, 1, 2, 3, 4, 5, 6, 7, 8, 9] [] rfl rfl (by decide) (by decide) (by decide) 0 4 rfl rfl rfl hl.1 (Nat.le_of_ble_eq_true rfl) ⟨Nat.le_of_ble_eq_true rfl, Nat.le_of_ble_eq_true rfl⟩ rfl dX5_homeBehind_1 (fun u9 H locs hw9 hP hD hS => ?_)
  obtain ⟨tr1_1, e9⟩ : ∃ z, z = u9 := ⟨_, rfl⟩
  subst e9
  have hw1 : ∀ q, q < nr * nc → tr1_1 q = pL q - 97 := hw9
  have hP : va_P G.1 CL (MW G mh md nr nc pL pG pB pk bf hi sv ch hs inp ty er wy wd rf lt ln th tr1_1 mv fo sp wr td) _ := hP
  have hD : va_D A (MW G mh md nr nc pL pG pB pk bf hi sv ch hs inp ty er wy wd rf lt ln th tr1_1 mv fo sp wr td) := hD
  refine lv_aload_n hx hb dX5_homeBehind_4 rfl (lv_at hl 0 rfl) ?_
  refine lv_iload_n hx hb dX5_homeBehind_5 rfl (lv_at hl 1 rfl) ?_
  refine callVv (As := [.int (nI tt)]) (rest := []) (wc := (MW G mh md nr nc pL pG pB pk bf hi sv ch hs inp ty er wy wd rf lt ln th tr1_1 mv fo sp wr td)) (wr := ([] : va_W)) ⟨hx, hb, hml, hown, hts⟩ (m_X5_turnsTried l G mh md nr nc pL pG pB pk bf hi sv ch hs inp ty er wy wd rf lt ln th tr1_1 mv fo sp wr td tt pL (by first | assumption | omega) (by first | assumption | omega) hw1) (cwV 1 hts (lw_V q1903 q1905 qs55 q105 q1906) rfl rfl rfl (by decide +kernel) ⟨Nat.le_of_ble_eq_true rfl, Nat.le_of_ble_eq_true rfl⟩) hK hZ hA hP hD hS [0, 1, 2, 3, 4, 5, 6, 7, 8, 9] [] rfl rfl (by decide) (by decide) (by decide) 0 4 rfl rfl rfl hl.1 (Nat.le_of_ble_eq_true rfl) ⟨Nat.le_of_ble_eq_true rfl, Nat.le_of_ble_eq_true rfl⟩ rfl dX5_homeBehind_6 (fun u9 H locs hw9 hP hD hS => ?_)
  obtain ⟨tr1_2, mv1_2⟩ := u9
  have hw6 : ∀ q, q < nr * nc → tr1_2 q = tn nr nc tt pL q - 97 := hw9
  have hP : va_P G.1 CL (MW G mh md nr nc pL pG pB pk bf hi sv ch hs inp ty er wy wd rf lt ln th tr1_2 mv1_2 fo sp wr td) _ := hP
  have hD : va_D A (MW G mh md nr nc pL pG pB pk bf hi sv ch hs inp ty er wy wd rf lt ln th tr1_2 mv1_2 fo sp wr td) := hD
  refine lv_aload_n hx hb dX5_homeBehind_9 rfl (lv_at hl 0 rfl) ?_
  refine callVi (As := []) (rest := []) (wc := (MW G mh md nr nc pL pG pB pk bf hi sv ch hs inp ty er wy wd rf lt ln th tr1_2 mv1_2 fo sp wr td)) (wr := ([] : va_W)) ⟨hx, hb, hml, hown, hts⟩ (m_X5_homeTried l G mh md nr nc pL pG pB pk bf hi sv ch hs inp ty er wy wd rf lt ln th tr1_2 mv1_2 fo sp wr td (tn nr nc tt pL) (by first | assumption | omega) hw6 (tn_rg hd ht0 hLR) (by first | assumption | omega)) (cwV 0 hts (lw_V q1895 q1897 qs53 q105 q1898) rfl rfl rfl (by decide +kernel) ⟨Nat.le_of_ble_eq_true rfl, Nat.le_of_ble_eq_true rfl⟩) hK hZ hA hP hD hS [0, 1, 2, 3, 4, 5, 6, 7, 8, 9] [] rfl rfl (by decide) (by decide) (by decide) 0 4 rfl rfl rfl hl.1 (Nat.le_of_ble_eq_true rfl) ⟨Nat.le_of_ble_eq_true rfl, Nat.le_of_ble_eq_true rfl⟩ rfl dX5_homeBehind_10 (fun r9 u9 H locs hw9 hP hD hS => ?_)
  subst hw9
  have hP : va_P G.1 CL (MW G mh md nr nc pL pG pB pk bf hi sv ch hs inp ty er wy wd rf lt ln th tr1_2 mv1_2 fo sp wr td) _ := hP
  have hD : va_D A (MW G mh md nr nc pL pG pB pk bf hi sv ch hs inp ty er wy wd rf lt ln th tr1_2 mv1_2 fo sp wr td) := hD
  subst hQ
  exact ret_i hx hb hr hlk (⟨tr1_2, mv1_2⟩) rfl hP hD hS rfl dX5_homeBehind_13
set_option maxHeartbeats 4000000 in
set_option maxRecDepth 100000 in
theorem m_X5_would (l : Launch) (G : GG) (mh : Nat) (md : Nat → Nat) (nr : Nat) (nc : Nat) (pL : Nat → Nat) (pG : Nat → Nat) (pB : Nat → Bool) (pk : Nat → Int32) (bf : Nat → Int32) (hi : Nat → Int32) (sv : Nat → Int32) (ch : Nat) (hs : Bool) (inp : Nat → Nat) (ty : Nat) (er : Int32) (wy : Int32) (wd : Int32) (rf : Bool) (lt : Nat → Nat) (ln : Nat) (th : Int32) (tr : Nat → Nat) (mv : Nat → Nat) (fo : Int32) (sp : Nat) (wr : Bool) (td : Nat → Int32) (pa : Int32) (hd : 2 ≤ nr ∧ nr ≤ 3 ∧ 2 ≤ nc ∧ nc ≤ 3) (hLR : ∀ q, q < nr * nc → 97 ≤ pL q ∧ pL q ≤ 108) (hKR : ∀ q, q < nr * nc → pG q = 46 ∨ (97 ≤ pG q ∧ pG q ≤ 108)) : MM l G yX5_would cX5_would 2 (some .int) ⟨3, 0, 0, 69⟩ [.ref mh, .int pa] (MW G mh md nr nc pL pG pB pk bf hi sv ch hs inp ty er wy wd rf lt ln th tr mv fo sp wr td) (Qi_ G (fun (r : Int32) (u : (Nat → Nat) × (Nat → Nat) × (Bool)) => r = (if isIx pa (2 * (nr + nc)) = true then nI (hm nr nc (tn nr nc (cl_ pa) pL) pG) else nI 0)) (fun (u : (Nat → Nat) × (Nat → Nat) × (Bool)) => (MW G mh md nr nc pL pG pB pk bf hi sv ch hs inp ty er wy wd u.2.2 lt ln (if isIx pa (2 * (nr + nc)) = true then nI 0 else nI 1) u.1 u.2.1 fo sp wr td))) := by
  refine MM.of (by decide) (Nat.le_of_ble_eq_true rfl) ?_
  intro p e s m args below meth cd A C hini hA hK hZ hP hD ls hl
  generalize hQ : MQ below ((Qi_ G (fun (r : Int32) (u : (Nat → Nat) × (Nat → Nat) × (Bool)) => r = (if isIx pa (2 * (nr + nc)) = true then nI (hm nr nc (tn nr nc (cl_ pa) pL) pG) else nI 0)) (fun (u : (Nat → Nat) × (Nat → Nat) × (Bool)) => (MW G mh md nr nc pL pG pB pk bf hi sv ch hs inp ty er wy wd u.2.2 lt ln (if isIx pa (2 * (nr + nc)) = true then nI 0 else nI 1) u.1 u.2.1 fo sp wr td))) A) args s (⟨3, 0, 0, 69⟩ : Room).cells (⟨3, 0, 0, 69⟩ : Room).slots A = Q
  obtain ⟨hx, hb, hr, hts, hown, hlk, hml⟩ := C
  have hown : s.vm.findClass RX5 = some m.cls := hown
  have hS : va_S A s.heap s.heap [] := va_S.rf
  have hl : lv_has ls 2 [(0, .ref mh), (1, .int pa)] := hl
  have hmu := dm_mul hd
  refine lv_aload_n hx hb dX5_would_0 rfl (lv_at hl 0 rfl) ?_
  refine lv_iload_n hx hb dX5_would_1 rfl (lv_at hl 1 rfl) ?_
  refine callVi (As := [.int pa]) (rest := []) (wc := (MW G mh md nr nc pL pG pB pk bf hi sv ch hs inp ty er wy wd rf lt ln th tr mv fo sp wr td)) (wr := ([] : va_W)) ⟨hx, hb, hml, hown, hts⟩ (m_X5_isTurn l G mh md nr nc pL pG pB pk bf hi sv ch hs inp ty er wy wd rf lt ln th tr mv fo sp wr td pa (by first | assumption | omega)) (cwV 1 hts (lw_V q1871 q1873 qs47 q105 q1874) rfl rfl rfl (by decide +kernel) ⟨Nat.le_of_ble_eq_true rfl, Nat.le_of_ble_eq_true rfl⟩) hK hZ hA hP hD hS [0, 1, 2, 3, 4, 5, 6, 7, 8, 9] [] rfl rfl (by decide) (by decide) (by decide) 0 4 rfl rfl rfl hl.1 (Nat.le_of_ble_eq_true rfl) ⟨Nat.le_of_ble_eq_true rfl, Nat.le_of_ble_eq_true rfl⟩ rfl dX5_would_2 (fun r9 u9 H locs hw9 hP hD hS => ?_)
  subst hw9
  have hP : va_P G.1 CL (MW G mh md nr nc pL pG pB pk bf hi sv ch hs inp ty er wy wd rf lt ln th tr mv fo sp wr td) _ := hP
  have hD : va_D A (MW G mh md nr nc pL pG pB pk bf hi sv ch hs inp ty er wy wd rf lt ln th tr mv fo sp wr td) := hD
  refine b_if_eq (tgt := 20) hx hb dX5_would_5 (by decide) (fun c5 => ?_) (fun c5 => ?_)
  · skip
    refine lv_aload_n hx hb dX5_would_20 rfl (lv_at hl 0 rfl) ?_
    refine lv_iconst (v := nI 1) hx hb dX5_would_21 (by decide) ?_
    refine callVi (As := [.int (nI 1)]) (rest := []) (wc := (MW G mh md nr nc pL pG pB pk bf hi sv ch hs inp ty er wy wd rf lt ln th tr mv fo sp wr td)) (wr := ([] : va_W)) ⟨hx, hb, hml, hown, hts⟩ (m_X5_fails l G mh md nr nc pL pG pB pk bf hi sv ch hs inp ty er wy wd rf lt ln th tr mv fo sp wr td (nI 1) ) (cwV 1 hts (lw_V q1813 q1815 qs37 q105 q1816) rfl rfl rfl (by decide +kernel) ⟨Nat.le_of_ble_eq_true rfl, Nat.le_of_ble_eq_true rfl⟩) hK hZ hA hP hD hS [0, 1, 2, 3, 4, 5, 6, 7, 8, 9] [] rfl rfl (by decide) (by decide) (by decide) 0 4 rfl rfl rfl hl.1 (Nat.le_of_ble_eq_true rfl) ⟨Nat.le_of_ble_eq_true rfl, Nat.le_of_ble_eq_true rfl⟩ rfl dX5_would_22 (fun r9 u9 H locs hw9 hP hD hS => ?_)
    subst hw9
    have hP : va_P G.1 CL (MW G mh md nr nc pL pG pB pk bf hi sv ch hs inp ty er wy wd false lt ln (nI 1) tr mv fo sp wr td) _ := hP
    have hD : va_D A (MW G mh md nr nc pL pG pB pk bf hi sv ch hs inp ty er wy wd false lt ln (nI 1) tr mv fo sp wr td) := hD
    have e_th : (nI 1) = (if isIx pa (2 * (nr + nc)) = true then nI 0 else nI 1) := (if_neg (by rw [c5]; decide)).symm
    rw [e_th] at hP hD
    subst hQ
    exact ret_i hx hb hr hlk (⟨tr, mv, false⟩) (by rw [if_neg (by rw [c5]; decide)]) hP hD hS rfl dX5_would_25
  · skip
    obtain ⟨ka, hka, rfl⟩ := isIx_t c5 (by omega)
    refine lv_aload_n hx hb dX5_would_8 rfl (lv_at hl 0 rfl) ?_
    refine lv_aload_n hx hb dX5_would_9 rfl (lv_at hl 0 rfl) ?_
    refine lv_iload_n hx hb dX5_would_10 rfl (lv_at hl 1 rfl) ?_
    refine callVi (As := [.int (nI ka)]) (rest := [.ref mh]) (wc := (MW G mh md nr nc pL pG pB pk bf hi sv ch hs inp ty er wy wd rf lt ln th tr mv fo sp wr td)) (wr := ([] : va_W)) ⟨hx, hb, hml, hown, hts⟩ (m_X5_homeBehind l G mh md nr nc pL pG pB pk bf hi sv ch hs inp ty er wy wd rf lt ln th tr mv fo sp wr td ka (by first | assumption | omega) (by first | assumption | omega) (by first | assumption | omega) (by first | assumption | omega)) (cwV 1 hts (lw_V q2023 q2025 qs71 q105 q2026) rfl rfl rfl (by decide +kernel) ⟨Nat.le_of_ble_eq_true rfl, Nat.le_of_ble_eq_true rfl⟩) hK hZ hA hP hD hS [0, 1, 2, 3, 4, 5, 6, 7, 8, 9] [] rfl rfl (by decide) (by decide) (by decide) 0 4 rfl rfl rfl hl.1 (Nat.le_of_ble_eq_true rfl) ⟨Nat.le_of_ble_eq_true rfl, Nat.le_of_ble_eq_true rfl⟩ rfl dX5_would_11 (fun r9 u9 H locs hw9 hP hD hS => ?_)
    obtain ⟨tr1_3, mv1_3⟩ := u9
    subst hw9
    have hP : va_P G.1 CL (MW G mh md nr nc pL pG pB pk bf hi sv ch hs inp ty er wy wd rf lt ln th tr1_3 mv1_3 fo sp wr td) _ := hP
    have hD : va_D A (MW G mh md nr nc pL pG pB pk bf hi sv ch hs inp ty er wy wd rf lt ln th tr1_3 mv1_3 fo sp wr td) := hD
    refine callVi (As := [.int (nI (hm nr nc (tn nr nc ka pL) pG))]) (rest := []) (wc := (MW G mh md nr nc pL pG pB pk bf hi sv ch hs inp ty er wy wd rf lt ln th tr1_3 mv1_3 fo sp wr td)) (wr := ([] : va_W)) ⟨hx, hb, hml, hown, hts⟩ (m_X5_done l G mh md nr nc pL pG pB pk bf hi sv ch hs inp ty er wy wd rf lt ln th tr1_3 mv1_3 fo sp wr td (nI (hm nr nc (tn nr nc ka pL) pG)) ) (cwV 1 hts (lw_V q1821 q1823 qs39 q105 q1824) rfl rfl rfl (by decide +kernel) ⟨Nat.le_of_ble_eq_true rfl, Nat.le_of_ble_eq_true rfl⟩) hK hZ hA hP hD hS [0, 1, 2, 3, 4, 5, 6, 7, 8, 9] [] rfl rfl (by decide) (by decide) (by decide) 0 4 rfl rfl rfl hl.1 (Nat.le_of_ble_eq_true rfl) ⟨Nat.le_of_ble_eq_true rfl, Nat.le_of_ble_eq_true rfl⟩ rfl dX5_would_14 (fun r9 u9 H locs hw9 hP hD hS => ?_)
    subst hw9
    have hP : va_P G.1 CL (MW G mh md nr nc pL pG pB pk bf hi sv ch hs inp ty er wy wd rf lt ln (nI 0) tr1_3 mv1_3 fo sp wr td) _ := hP
    have hD : va_D A (MW G mh md nr nc pL pG pB pk bf hi sv ch hs inp ty er wy wd rf lt ln (nI 0) tr1_3 mv1_3 fo sp wr td) := hD
    refine lv_goto (tgt := 25) hx hb dX5_would_17 (by decide) ?_
    have e_th : (nI 0) = (if isIx (nI ka) (2 * (nr + nc)) = true then nI 0 else nI 1) := (if_pos c5).symm
    rw [e_th] at hP hD
    subst hQ
    exact ret_i hx hb hr hlk (⟨tr1_3, mv1_3, rf⟩) (by rw [if_pos c5, cl_n (by omega)]) hP hD hS rfl dX5_would_25
set_option maxHeartbeats 4000000 in
set_option maxRecDepth 100000 in
theorem m_X5_best (l : Launch) (G : GG) (mh : Nat) (md : Nat → Nat) (nr : Nat) (nc : Nat) (pL : Nat → Nat) (pG : Nat → Nat) (pB : Nat → Bool) (pk : Nat → Int32) (bf : Nat → Int32) (hi : Nat → Int32) (sv : Nat → Int32) (ch : Nat) (hs : Bool) (inp : Nat → Nat) (ty : Nat) (er : Int32) (wy : Int32) (wd : Int32) (rf : Bool) (lt : Nat → Nat) (ln : Nat) (th : Int32) (tr : Nat → Nat) (mv : Nat → Nat) (fo : Int32) (sp : Nat) (wr : Bool) (td : Nat → Int32) (hd : 2 ≤ nr ∧ nr ≤ 3 ∧ 2 ≤ nc ∧ nc ≤ 3) (hLR : ∀ q, q < nr * nc → 97 ≤ pL q ∧ pL q ≤ 108) (hKR : ∀ q, q < nr * nc → pG q = 46 ∨ (97 ≤ pG q ∧ pG q ≤ 108)) : MM l G yX5_best cX5_best 5 (some .int) ⟨3, 0, 0, 69⟩ [.ref mh] (MW G mh md nr nc pL pG pB pk bf hi sv ch hs inp ty er wy wd rf lt ln th tr mv fo sp wr td) (Qi_ G (fun (r : Int32) (u : (Nat → Nat) × (Nat → Nat) × (Bool)) => r = (if (bsN nr nc pB pL pG (2 * (nr + nc))) < (2 * (nr + nc)) then nI (bsN nr nc pB pL pG (2 * (nr + nc))) else nI 0)) (fun (u : (Nat → Nat) × (Nat → Nat) × (Bool)) => (MW G mh md nr nc pL pG pB pk bf hi sv ch hs inp ty er wy wd u.2.2 lt ln (if (bsN nr nc pB pL pG (2 * (nr + nc))) < (2 * (nr + nc)) then nI 0 else nI 1) u.1 u.2.1 fo sp wr td))) := by
  refine MM.of (by decide) (Nat.le_of_ble_eq_true rfl) ?_
  intro p e s m args below meth cd A C hini hA hK hZ hP hD ls hl
  generalize hQ : MQ below ((Qi_ G (fun (r : Int32) (u : (Nat → Nat) × (Nat → Nat) × (Bool)) => r = (if (bsN nr nc pB pL pG (2 * (nr + nc))) < (2 * (nr + nc)) then nI (bsN nr nc pB pL pG (2 * (nr + nc))) else nI 0)) (fun (u : (Nat → Nat) × (Nat → Nat) × (Bool)) => (MW G mh md nr nc pL pG pB pk bf hi sv ch hs inp ty er wy wd u.2.2 lt ln (if (bsN nr nc pB pL pG (2 * (nr + nc))) < (2 * (nr + nc)) then nI 0 else nI 1) u.1 u.2.1 fo sp wr td))) A) args s (⟨3, 0, 0, 69⟩ : Room).cells (⟨3, 0, 0, 69⟩ : Room).slots A = Q
  obtain ⟨hx, hb, hr, hts, hown, hlk, hml⟩ := C
  have hown : s.vm.findClass RX5 = some m.cls := hown
  have hS : va_S A s.heap s.heap [] := va_S.rf
  have hl : lv_has ls 5 [(0, .ref mh)] := hl
  have hmu := dm_mul hd
  refine lv_iconst (v := (-1)) hx hb dX5_best_0 (by decide) ?_
  refine lv_istore_n (lv' := [(1, .int (-1)), (0, .ref mh)]) hx hb dX5_best_1 rfl hl (by decide) rfl (fun ls hl => ?_)
  refine lv_iconst (v := (-1)) hx hb dX5_best_2 (by decide) ?_
  refine lv_istore_n (lv' := [(2, .int (-1)), (1, .int (-1)), (0, .ref mh)]) hx hb dX5_best_3 rfl hl (by decide) rfl (fun ls hl => ?_)
  refine lv_iconst (v := nI 0) hx hb dX5_best_4 (by decide) ?_
  refine lv_istore_n (lv' := [(3, .int (nI 0)), (2, .int (-1)), (1, .int (-1)), (0, .ref mh)]) hx hb dX5_best_5 rfl hl (by decide) rfl (fun ls hl => ?_)
  have lp6 : ∀ (f : Nat) (t : Nat) (b9 : Int32) (m9 : Int32) (tr2 : Nat → Nat) (mv2 : Nat → Nat), (2 * (nr + nc)) - t < f → (t ≤ (2 * (nr + nc))) → (b9 = oN (2 * (nr + nc)) (bsN nr nc pB pL pG t)) → (m9 = mstN nr nc pB pL pG t) → ∀ (H : Heap) (locs : List Loc) (ls : Array Slot), va_P G.1 CL (MW G mh md nr nc pL pG pB pk bf hi sv ch hs inp ty er wy wd rf lt ln th tr2 mv2 fo sp wr td) H → va_D A (MW G mh md nr nc pL pG pB pk bf hi sv ch hs inp ty er wy wd rf lt ln th tr2 mv2 fo sp wr td) → va_S A s.heap H locs → lv_has ls 5 [(0, .ref mh), (1, .int b9), (2, .int m9), (3, .int (nI t))] → W p l e (⟨3, 0, 0, 69⟩ : Room) s m args below meth cd H locs 0 0 Q (F0 m 6 ls []) := by
    intro f
    induction f with
    | zero => intro t b9 m9 tr2 mv2 hf; exact absurd hf (Nat.not_lt_zero _)
    | succ f ih6 =>
      intro t b9 m9 tr2 mv2 hf ht9 hb9 hm9 H locs ls hP hD hS hl
      refine lv_iload_n hx hb dX5_best_6 rfl (lv_at hl 3 rfl) ?_
      refine lv_iconst (v := nI 2) hx hb dX5_best_7 (by decide) ?_
      refine lv_aload_n hx hb dX5_best_8 rfl (lv_at hl 0 rfl) ?_
      refine callVi (As := []) (rest := [.int (nI 2), .int (nI t)]) (wc := (MW G mh md nr nc pL pG pB pk bf hi sv ch hs inp ty er wy wd rf lt ln th tr2 mv2 fo sp wr td)) (wr := ([] : va_W)) ⟨hx, hb, hml, hown, hts⟩ (m_X5_lines l G mh md nr nc pL pG pB pk bf hi sv ch hs inp ty er wy wd rf lt ln th tr2 mv2 fo sp wr td ) (cwV 0 hts (lw_V q1875 q1877 qs48 q105 q1878) rfl rfl rfl (by decide +kernel) ⟨Nat.le_of_ble_eq_true rfl, Nat.le_of_ble_eq_true rfl⟩) hK hZ hA hP hD hS [0, 1, 2, 3, 4, 5, 6, 7, 8, 9] [] rfl rfl (by decide) (by decide) (by decide) 0 4 rfl rfl rfl hl.1 (Nat.le_of_ble_eq_true rfl) ⟨Nat.le_of_ble_eq_true rfl, Nat.le_of_ble_eq_true rfl⟩ rfl dX5_best_9 (fun r9 u9 H locs hw9 hP hD hS => ?_)
      subst hw9
      have hP : va_P G.1 CL (MW G mh md nr nc pL pG pB pk bf hi sv ch hs inp ty er wy wd rf lt ln th tr2 mv2 fo sp wr td) _ := hP
      have hD : va_D A (MW G mh md nr nc pL pG pB pk bf hi sv ch hs inp ty er wy wd rf lt ln th tr2 mv2 fo sp wr td) := hD
      refine n_imul hx hb dX5_best_12 ?_
      refine n_cmp_ge (tgt := 66) hx hb dX5_best_13 (by decide) (by omega) (by omega) (fun c13 => ?_) (fun c13 => ?_)
      · skip
        have htt : t = (2 * (nr + nc)) := by omega
        refine lv_iload_n hx hb dX5_best_66 rfl (lv_at hl 1 rfl) ?_
        refine lv_iconst (v := (-1)) hx hb dX5_best_67 (by decide) ?_
        refine lv_icmp_ne (tgt := 79) hx hb dX5_best_68 (by decide) (fun c68 => ?_) (fun c68 => ?_)
        · skip
          have hbn : (bsN nr nc pB pL pG (2 * (nr + nc))) < (2 * (nr + nc)) := Classical.not_not.mp (fun z => c68 (by rw [hb9, htt]; exact oN_ge z))
          refine lv_aload_n hx hb dX5_best_79 rfl (lv_at hl 0 rfl) ?_
          refine lv_iload_n hx hb dX5_best_80 rfl (lv_at hl 1 rfl) ?_
          refine callVi (As := [.int b9]) (rest := []) (wc := (MW G mh md nr nc pL pG pB pk bf hi sv ch hs inp ty er wy wd rf lt ln th tr2 mv2 fo sp wr td)) (wr := ([] : va_W)) ⟨hx, hb, hml, hown, hts⟩ (m_X5_done l G mh md nr nc pL pG pB pk bf hi sv ch hs inp ty er wy wd rf lt ln th tr2 mv2 fo sp wr td b9 ) (cwV 1 hts (lw_V q1821 q1823 qs39 q105 q1824) rfl rfl rfl (by decide +kernel) ⟨Nat.le_of_ble_eq_true rfl, Nat.le_of_ble_eq_true rfl⟩) hK hZ hA hP hD hS [0, 1, 2, 3, 4, 5, 6, 7, 8, 9] [] rfl rfl (by decide) (by decide) (by decide) 0 4 rfl rfl rfl hl.1 (Nat.le_of_ble_eq_true rfl) ⟨Nat.le_of_ble_eq_true rfl, Nat.le_of_ble_eq_true rfl⟩ rfl dX5_best_81 (fun r9 u9 H locs hw9 hP hD hS => ?_)
          subst r9
          have hP : va_P G.1 CL (MW G mh md nr nc pL pG pB pk bf hi sv ch hs inp ty er wy wd rf lt ln (nI 0) tr2 mv2 fo sp wr td) _ := hP
          have hD : va_D A (MW G mh md nr nc pL pG pB pk bf hi sv ch hs inp ty er wy wd rf lt ln (nI 0) tr2 mv2 fo sp wr td) := hD
          have e_th : (nI 0) = (if (bsN nr nc pB pL pG (2 * (nr + nc))) < (2 * (nr + nc)) then nI 0 else nI 1) := (if_pos hbn).symm
          rw [e_th] at hP hD
          subst hQ
          exact ret_i hx hb hr hlk (⟨tr2, mv2, rf⟩) (by rw [if_pos hbn, hb9, htt, oN_lt hbn]) hP hD hS rfl dX5_best_84
        · skip
          have hbn : ¬ (bsN nr nc pB pL pG (2 * (nr + nc))) < (2 * (nr + nc)) := by rw [hb9, htt] at c68; exact (oN_m1 (by omega)).mp c68
          refine lv_aload_n hx hb dX5_best_71 rfl (lv_at hl 0 rfl) ?_
          refine lv_iconst (v := nI 1) hx hb dX5_best_72 (by decide) ?_
          refine callVi (As := [.int (nI 1)]) (rest := []) (wc := (MW G mh md nr nc pL pG pB pk bf hi sv ch hs inp ty er wy wd rf lt ln th tr2 mv2 fo sp wr td)) (wr := ([] : va_W)) ⟨hx, hb, hml, hown, hts⟩ (m_X5_fails l G mh md nr nc pL pG pB pk bf hi sv ch hs inp ty er wy wd rf lt ln th tr2 mv2 fo sp wr td (nI 1) ) (cwV 1 hts (lw_V q1813 q1815 qs37 q105 q1816) rfl rfl rfl (by decide +kernel) ⟨Nat.le_of_ble_eq_true rfl, Nat.le_of_ble_eq_true rfl⟩) hK hZ hA hP hD hS [0, 1, 2, 3, 4, 5, 6, 7, 8, 9] [] rfl rfl (by decide) (by decide) (by decide) 0 4 rfl rfl rfl hl.1 (Nat.le_of_ble_eq_true rfl) ⟨Nat.le_of_ble_eq_true rfl, Nat.le_of_ble_eq_true rfl⟩ rfl dX5_best_73 (fun r9 u9 H locs hw9 hP hD hS => ?_)
          subst hw9
          have hP : va_P G.1 CL (MW G mh md nr nc pL pG pB pk bf hi sv ch hs inp ty er wy wd false lt ln (nI 1) tr2 mv2 fo sp wr td) _ := hP
          have hD : va_D A (MW G mh md nr nc pL pG pB pk bf hi sv ch hs inp ty er wy wd false lt ln (nI 1) tr2 mv2 fo sp wr td) := hD
          refine lv_goto (tgt := 84) hx hb dX5_best_76 (by decide) ?_
          have e_th : (nI 1) = (if (bsN nr nc pB pL pG (2 * (nr + nc))) < (2 * (nr + nc)) then nI 0 else nI 1) := (if_neg hbn).symm
          rw [e_th] at hP hD
          subst hQ
          exact ret_i hx hb hr hlk (⟨tr2, mv2, false⟩) (if_neg hbn).symm hP hD hS rfl dX5_best_84
      · skip
        refine lv_aload_n hx hb dX5_best_16 rfl (lv_at hl 0 rfl) ?_
        refine lv_iload_n hx hb dX5_best_17 rfl (lv_at hl 3 rfl) ?_
        refine callVi (As := [.int (nI t)]) (rest := []) (wc := (MW G mh md nr nc pL pG pB pk bf hi sv ch hs inp ty er wy wd rf lt ln th tr2 mv2 fo sp wr td)) (wr := ([] : va_W)) ⟨hx, hb, hml, hown, hts⟩ (m_X5_isOpen l G mh md nr nc pL pG pB pk bf hi sv ch hs inp ty er wy wd rf lt ln th tr2 mv2 fo sp wr td t (by first | assumption | omega)) (cwV 1 hts (lw_V q1879 q1881 qs49 q105 q1882) rfl rfl rfl (by decide +kernel) ⟨Nat.le_of_ble_eq_true rfl, Nat.le_of_ble_eq_true rfl⟩) hK hZ hA hP hD hS [0, 1, 2, 3, 4, 5, 6, 7, 8, 9] [] rfl rfl (by decide) (by decide) (by decide) 0 4 rfl rfl rfl hl.1 (Nat.le_of_ble_eq_true rfl) ⟨Nat.le_of_ble_eq_true rfl, Nat.le_of_ble_eq_true rfl⟩ rfl dX5_best_18 (fun r9 u9 H locs hw9 hP hD hS => ?_)
        subst hw9
        have hP : va_P G.1 CL (MW G mh md nr nc pL pG pB pk bf hi sv ch hs inp ty er wy wd rf lt ln th tr2 mv2 fo sp wr td) _ := hP
        have hD : va_D A (MW G mh md nr nc pL pG pB pk bf hi sv ch hs inp ty er wy wd rf lt ln th tr2 mv2 fo sp wr td) := hD
        refine b_if_eq (tgt := 32) hx hb dX5_best_21 (by decide) (fun c21 => ?_) (fun c21 => ?_)
        · skip
          refine lv_iconst (v := (-1)) hx hb dX5_best_32 (by decide) ?_
          refine lv_istore (lv' := [(4, .int (-1)), (0, .ref mh), (1, .int b9), (2, .int m9), (3, .int (nI t))]) hx hb dX5_best_33 hl (by decide) rfl (fun ls hl => ?_)
          refine lv_iload hx hb dX5_best_35 (lv_at hl 0 rfl) ?_
          refine lv_iload_n hx hb dX5_best_37 rfl (lv_at hl 3 rfl) ?_
          refine lv_icmp_le (tgt := 45) hx hb dX5_best_38 (by decide) (fun c38 => ?_) (fun c38 => ?_)
          · skip
            refine lv_iload_n hx hb dX5_best_45 rfl (lv_at hl 2 rfl) ?_
            refine lv_istore_n (lv' := [(1, .int b9), (4, .int (-1)), (0, .ref mh), (2, .int m9), (3, .int (nI t))]) hx hb dX5_best_46 rfl hl (by decide) rfl (fun ls hl => ?_)
            refine lv_iload hx hb dX5_best_47 (lv_at hl 1 rfl) ?_
            refine lv_iload_n hx hb dX5_best_49 rfl (lv_at hl 3 rfl) ?_
            refine lv_icmp_le (tgt := 58) hx hb dX5_best_50 (by decide) (fun c50 => ?_) (fun c50 => ?_)
            · skip
              refine lv_iload_n hx hb dX5_best_58 rfl (lv_at hl 3 rfl) ?_
              refine lv_istore_n (lv' := [(2, .int m9), (1, .int b9), (4, .int (-1)), (0, .ref mh), (3, .int (nI t))]) hx hb dX5_best_59 rfl hl (by decide) rfl (fun ls hl => ?_)
              refine lv_iinc (v := nI (t + 1)) (lv' := [(3, .int (nI (t + 1))), (2, .int m9), (1, .int b9), (4, .int (-1)), (0, .ref mh)]) hx hb dX5_best_60 hl (k := 4) rfl (nI_add _ _) (by decide) rfl (fun ls hl => ?_)
              refine lv_goto (tgt := 6) hx hb dX5_best_63 (by decide) ?_
              exact ih6 (t + 1) b9 m9 tr2 mv2 (by omega) (by omega) (by first | exact absurd c50 c38 | (rw [bs_no hd (by rw [← hm9]; exact c38)]; exact hb9) | (rw [bs_bar (by simpa using c21)]; exact hb9)) (by first | exact absurd c50 c38 | (rw [mst_s (bs_no hd (by rw [← hm9]; exact c38))]; exact hm9) | (rw [mst_s (bs_bar (by simpa using c21))]; exact hm9)) _ _ _ hP hD hS (lv_sub hl [4, 2, 1, 0] rfl)
            · skip
              refine lv_iload hx hb dX5_best_53 (lv_at hl 1 rfl) ?_
              refine lv_goto (tgt := 59) hx hb dX5_best_55 (by decide) ?_
              refine lv_istore_n (lv' := [(2, .int (-1)), (1, .int b9), (4, .int (-1)), (0, .ref mh), (3, .int (nI t))]) hx hb dX5_best_59 rfl hl (by decide) rfl (fun ls hl => ?_)
              refine lv_iinc (v := nI (t + 1)) (lv' := [(3, .int (nI (t + 1))), (2, .int (-1)), (1, .int b9), (4, .int (-1)), (0, .ref mh)]) hx hb dX5_best_60 hl (k := 4) rfl (nI_add _ _) (by decide) rfl (fun ls hl => ?_)
              refine lv_goto (tgt := 6) hx hb dX5_best_63 (by decide) ?_
              exact ih6 (t + 1) b9 (-1) tr2 mv2 (by omega) (by omega) (by first | exact absurd c38 c50 | exact absurd (by rw [hm9]; exact mst_ge hd) c38 | (rw [bs_up hd (by simpa using c21) (by rw [← hm9]; exact c38), oN_lt (by omega)])) (by first | exact absurd c38 c50 | exact absurd (by rw [hm9]; exact mst_ge hd) c38 | (exact (mst_t hd (by omega) (bs_up hd (by simpa using c21) (by rw [← hm9]; exact c38))).symm)) _ _ _ hP hD hS (lv_sub hl [4, 2, 1, 0] rfl)
          · skip
            refine lv_iload_n hx hb dX5_best_41 rfl (lv_at hl 4 rfl) ?_
            refine lv_goto (tgt := 46) hx hb dX5_best_42 (by decide) ?_
            refine lv_istore_n (lv' := [(1, .int (nI t)), (4, .int (-1)), (0, .ref mh), (2, .int m9), (3, .int (nI t))]) hx hb dX5_best_46 rfl hl (by decide) rfl (fun ls hl => ?_)
            refine lv_iload hx hb dX5_best_47 (lv_at hl 1 rfl) ?_
            refine lv_iload_n hx hb dX5_best_49 rfl (lv_at hl 3 rfl) ?_
            refine lv_icmp_le (tgt := 58) hx hb dX5_best_50 (by decide) (fun c50 => ?_) (fun c50 => ?_)
            · skip
              refine lv_iload_n hx hb dX5_best_58 rfl (lv_at hl 3 rfl) ?_
              refine lv_istore_n (lv' := [(2, .int m9), (1, .int (nI t)), (4, .int (-1)), (0, .ref mh), (3, .int (nI t))]) hx hb dX5_best_59 rfl hl (by decide) rfl (fun ls hl => ?_)
              refine lv_iinc (v := nI (t + 1)) (lv' := [(3, .int (nI (t + 1))), (2, .int m9), (1, .int (nI t)), (4, .int (-1)), (0, .ref mh)]) hx hb dX5_best_60 hl (k := 4) rfl (nI_add _ _) (by decide) rfl (fun ls hl => ?_)
              refine lv_goto (tgt := 6) hx hb dX5_best_63 (by decide) ?_
              exact ih6 (t + 1) (nI t) m9 tr2 mv2 (by omega) (by omega) (by first | exact absurd c50 c38 | (rw [bs_no hd (by rw [← hm9]; exact c38)]; exact hb9) | (rw [bs_bar (by simpa using c21)]; exact hb9)) (by first | exact absurd c50 c38 | (rw [mst_s (bs_no hd (by rw [← hm9]; exact c38))]; exact hm9) | (rw [mst_s (bs_bar (by simpa using c21))]; exact hm9)) _ _ _ hP hD hS (lv_sub hl [4, 2, 1, 0] rfl)
            · skip
              refine lv_iload hx hb dX5_best_53 (lv_at hl 1 rfl) ?_
              refine lv_goto (tgt := 59) hx hb dX5_best_55 (by decide) ?_
              refine lv_istore_n (lv' := [(2, .int (-1)), (1, .int (nI t)), (4, .int (-1)), (0, .ref mh), (3, .int (nI t))]) hx hb dX5_best_59 rfl hl (by decide) rfl (fun ls hl => ?_)
              refine lv_iinc (v := nI (t + 1)) (lv' := [(3, .int (nI (t + 1))), (2, .int (-1)), (1, .int (nI t)), (4, .int (-1)), (0, .ref mh)]) hx hb dX5_best_60 hl (k := 4) rfl (nI_add _ _) (by decide) rfl (fun ls hl => ?_)
              refine lv_goto (tgt := 6) hx hb dX5_best_63 (by decide) ?_
              exact ih6 (t + 1) (nI t) (-1) tr2 mv2 (by omega) (by omega) (by first | exact absurd c38 c50 | exact absurd (by rw [hm9]; exact mst_ge hd) c38 | (rw [bs_up hd (by simpa using c21) (by rw [← hm9]; exact c38), oN_lt (by omega)])) (by first | exact absurd c38 c50 | exact absurd (by rw [hm9]; exact mst_ge hd) c38 | (exact (mst_t hd (by omega) (bs_up hd (by simpa using c21) (by rw [← hm9]; exact c38))).symm)) _ _ _ hP hD hS (lv_sub hl [4, 2, 1, 0] rfl)
        · skip
          refine lv_aload_n hx hb dX5_best_24 rfl (lv_at hl 0 rfl) ?_
          refine lv_iload_n hx hb dX5_best_25 rfl (lv_at hl 3 rfl) ?_
          refine callVi (As := [.int (nI t)]) (rest := []) (wc := (MW G mh md nr nc pL pG pB pk bf hi sv ch hs inp ty er wy wd rf lt ln th tr2 mv2 fo sp wr td)) (wr := ([] : va_W)) ⟨hx, hb, hml, hown, hts⟩ (m_X5_homeBehind l G mh md nr nc pL pG pB pk bf hi sv ch hs inp ty er wy wd rf lt ln th tr2 mv2 fo sp wr td t (by first | assumption | omega) (by first | assumption | omega) (by first | assumption | omega) (by first | assumption | omega)) (cwV 1 hts (lw_V q2023 q2025 qs71 q105 q2026) rfl rfl rfl (by decide +kernel) ⟨Nat.le_of_ble_eq_true rfl, Nat.le_of_ble_eq_true rfl⟩) hK hZ hA hP hD hS [0, 1, 2, 3, 4, 5, 6, 7, 8, 9] [] rfl rfl (by decide) (by decide) (by decide) 0 4 rfl rfl rfl hl.1 (Nat.le_of_ble_eq_true rfl) ⟨Nat.le_of_ble_eq_true rfl, Nat.le_of_ble_eq_true rfl⟩ rfl dX5_best_26 (fun r9 u9 H locs hw9 hP hD hS => ?_)
          obtain ⟨tr1_5, mv1_5⟩ := u9
          subst hw9
          have hP : va_P G.1 CL (MW G mh md nr nc pL pG pB pk bf hi sv ch hs inp ty er wy wd rf lt ln th tr1_5 mv1_5 fo sp wr td) _ := hP
          have hD : va_D A (MW G mh md nr nc pL pG pB pk bf hi sv ch hs inp ty er wy wd rf lt ln th tr1_5 mv1_5 fo sp wr td) := hD
          refine lv_goto (tgt := 33) hx hb dX5_best_29 (by decide) ?_
          refine lv_istore (lv' := [(4, .int (nI (hm nr nc (tn nr nc t pL) pG))), (0, .ref mh), (1, .int b9), (2, .int m9), (3, .int (nI t))]) hx hb dX5_best_33 hl (by decide) rfl (fun ls hl => ?_)
          refine lv_iload hx hb dX5_best_35 (lv_at hl 0 rfl) ?_
          refine lv_iload_n hx hb dX5_best_37 rfl (lv_at hl 3 rfl) ?_
          refine lv_icmp_le (tgt := 45) hx hb dX5_best_38 (by decide) (fun c38 => ?_) (fun c38 => ?_)
          · skip
            refine lv_iload_n hx hb dX5_best_45 rfl (lv_at hl 2 rfl) ?_
            refine lv_istore_n (lv' := [(1, .int b9), (4, .int (nI (hm nr nc (tn nr nc t pL) pG))), (0, .ref mh), (2, .int m9), (3, .int (nI t))]) hx hb dX5_best_46 rfl hl (by decide) rfl (fun ls hl => ?_)
            refine lv_iload hx hb dX5_best_47 (lv_at hl 1 rfl) ?_
            refine lv_iload_n hx hb dX5_best_49 rfl (lv_at hl 3 rfl) ?_
            refine lv_icmp_le (tgt := 58) hx hb dX5_best_50 (by decide) (fun c50 => ?_) (fun c50 => ?_)
            · skip
              refine lv_iload_n hx hb dX5_best_58 rfl (lv_at hl 3 rfl) ?_
              refine lv_istore_n (lv' := [(2, .int m9), (1, .int b9), (4, .int (nI (hm nr nc (tn nr nc t pL) pG))), (0, .ref mh), (3, .int (nI t))]) hx hb dX5_best_59 rfl hl (by decide) rfl (fun ls hl => ?_)
              refine lv_iinc (v := nI (t + 1)) (lv' := [(3, .int (nI (t + 1))), (2, .int m9), (1, .int b9), (4, .int (nI (hm nr nc (tn nr nc t pL) pG))), (0, .ref mh)]) hx hb dX5_best_60 hl (k := 4) rfl (nI_add _ _) (by decide) rfl (fun ls hl => ?_)
              refine lv_goto (tgt := 6) hx hb dX5_best_63 (by decide) ?_
              exact ih6 (t + 1) b9 m9 tr1_5 mv1_5 (by omega) (by omega) (by first | exact absurd c50 c38 | (rw [bs_no hd (by rw [← hm9]; exact c38)]; exact hb9) | (rw [bs_bar (by simpa using c21)]; exact hb9)) (by first | exact absurd c50 c38 | (rw [mst_s (bs_no hd (by rw [← hm9]; exact c38))]; exact hm9) | (rw [mst_s (bs_bar (by simpa using c21))]; exact hm9)) _ _ _ hP hD hS (lv_sub hl [4, 2, 1, 0] rfl)
            · skip
              refine lv_iload hx hb dX5_best_53 (lv_at hl 1 rfl) ?_
              refine lv_goto (tgt := 59) hx hb dX5_best_55 (by decide) ?_
              refine lv_istore_n (lv' := [(2, .int (nI (hm nr nc (tn nr nc t pL) pG))), (1, .int b9), (4, .int (nI (hm nr nc (tn nr nc t pL) pG))), (0, .ref mh), (3, .int (nI t))]) hx hb dX5_best_59 rfl hl (by decide) rfl (fun ls hl => ?_)
              refine lv_iinc (v := nI (t + 1)) (lv' := [(3, .int (nI (t + 1))), (2, .int (nI (hm nr nc (tn nr nc t pL) pG))), (1, .int b9), (4, .int (nI (hm nr nc (tn nr nc t pL) pG))), (0, .ref mh)]) hx hb dX5_best_60 hl (k := 4) rfl (nI_add _ _) (by decide) rfl (fun ls hl => ?_)
              refine lv_goto (tgt := 6) hx hb dX5_best_63 (by decide) ?_
              exact ih6 (t + 1) b9 (nI (hm nr nc (tn nr nc t pL) pG)) tr1_5 mv1_5 (by omega) (by omega) (by first | exact absurd c38 c50 | exact absurd (by rw [hm9]; exact mst_ge hd) c38 | (rw [bs_up hd (by simpa using c21) (by rw [← hm9]; exact c38), oN_lt (by omega)])) (by first | exact absurd c38 c50 | exact absurd (by rw [hm9]; exact mst_ge hd) c38 | (exact (mst_t hd (by omega) (bs_up hd (by simpa using c21) (by rw [← hm9]; exact c38))).symm)) _ _ _ hP hD hS (lv_sub hl [4, 2, 1, 0] rfl)
          · skip
            refine lv_iload_n hx hb dX5_best_41 rfl (lv_at hl 4 rfl) ?_
            refine lv_goto (tgt := 46) hx hb dX5_best_42 (by decide) ?_
            refine lv_istore_n (lv' := [(1, .int (nI t)), (4, .int (nI (hm nr nc (tn nr nc t pL) pG))), (0, .ref mh), (2, .int m9), (3, .int (nI t))]) hx hb dX5_best_46 rfl hl (by decide) rfl (fun ls hl => ?_)
            refine lv_iload hx hb dX5_best_47 (lv_at hl 1 rfl) ?_
            refine lv_iload_n hx hb dX5_best_49 rfl (lv_at hl 3 rfl) ?_
            refine lv_icmp_le (tgt := 58) hx hb dX5_best_50 (by decide) (fun c50 => ?_) (fun c50 => ?_)
            · skip
              refine lv_iload_n hx hb dX5_best_58 rfl (lv_at hl 3 rfl) ?_
              refine lv_istore_n (lv' := [(2, .int m9), (1, .int (nI t)), (4, .int (nI (hm nr nc (tn nr nc t pL) pG))), (0, .ref mh), (3, .int (nI t))]) hx hb dX5_best_59 rfl hl (by decide) rfl (fun ls hl => ?_)
              refine lv_iinc (v := nI (t + 1)) (lv' := [(3, .int (nI (t + 1))), (2, .int m9), (1, .int (nI t)), (4, .int (nI (hm nr nc (tn nr nc t pL) pG))), (0, .ref mh)]) hx hb dX5_best_60 hl (k := 4) rfl (nI_add _ _) (by decide) rfl (fun ls hl => ?_)
              refine lv_goto (tgt := 6) hx hb dX5_best_63 (by decide) ?_
              exact ih6 (t + 1) (nI t) m9 tr1_5 mv1_5 (by omega) (by omega) (by first | exact absurd c50 c38 | (rw [bs_no hd (by rw [← hm9]; exact c38)]; exact hb9) | (rw [bs_bar (by simpa using c21)]; exact hb9)) (by first | exact absurd c50 c38 | (rw [mst_s (bs_no hd (by rw [← hm9]; exact c38))]; exact hm9) | (rw [mst_s (bs_bar (by simpa using c21))]; exact hm9)) _ _ _ hP hD hS (lv_sub hl [4, 2, 1, 0] rfl)
            · skip
              refine lv_iload hx hb dX5_best_53 (lv_at hl 1 rfl) ?_
              refine lv_goto (tgt := 59) hx hb dX5_best_55 (by decide) ?_
              refine lv_istore_n (lv' := [(2, .int (nI (hm nr nc (tn nr nc t pL) pG))), (1, .int (nI t)), (4, .int (nI (hm nr nc (tn nr nc t pL) pG))), (0, .ref mh), (3, .int (nI t))]) hx hb dX5_best_59 rfl hl (by decide) rfl (fun ls hl => ?_)
              refine lv_iinc (v := nI (t + 1)) (lv' := [(3, .int (nI (t + 1))), (2, .int (nI (hm nr nc (tn nr nc t pL) pG))), (1, .int (nI t)), (4, .int (nI (hm nr nc (tn nr nc t pL) pG))), (0, .ref mh)]) hx hb dX5_best_60 hl (k := 4) rfl (nI_add _ _) (by decide) rfl (fun ls hl => ?_)
              refine lv_goto (tgt := 6) hx hb dX5_best_63 (by decide) ?_
              exact ih6 (t + 1) (nI t) (nI (hm nr nc (tn nr nc t pL) pG)) tr1_5 mv1_5 (by omega) (by omega) (by first | exact absurd c38 c50 | exact absurd (by rw [hm9]; exact mst_ge hd) c38 | (rw [bs_up hd (by simpa using c21) (by rw [← hm9]; exact c38), oN_lt (by omega)])) (by first | exact absurd c38 c50 | exact absurd (by rw [hm9]; exact mst_ge hd) c38 | (exact (mst_t hd (by omega) (bs_up hd (by simpa using c21) (by rw [← hm9]; exact c38))).symm)) _ _ _ hP hD hS (lv_sub hl [4, 2, 1, 0] rfl)
  exact lp6 _ 0 (-1) (-1) tr mv (Nat.lt_succ_self _) (by omega) (by rw [bsN, oN_ge (Nat.lt_irrefl _)]) (by rw [mstN, bsN, if_neg (Nat.lt_irrefl _)]) _ _ _ hP hD hS (lv_sub hl [3, 2, 1, 0] rfl)
set_option maxHeartbeats 4000000 in
set_option maxRecDepth 100000 in
theorem m_X5_where (l : Launch) (G : GG) (mh : Nat) (md : Nat → Nat) (nr : Nat) (nc : Nat) (pL : Nat → Nat) (pG : Nat → Nat) (pB : Nat → Bool) (pk : Nat → Int32) (bf : Nat → Int32) (hi : Nat → Int32) (sv : Nat → Int32) (ch : Nat) (hs : Bool) (inp : Nat → Nat) (ty : Nat) (er : Int32) (wy : Int32) (wd : Int32) (rf : Bool) (lt : Nat → Nat) (ln : Nat) (th : Int32) (tr : Nat → Nat) (mv : Nat → Nat) (fo : Int32) (sp : Nat) (wr : Bool) (td : Nat → Int32) (pa : Int32) (pb : Int32) (pc : Int32) (hd : 2 ≤ nr ∧ nr ≤ 3 ∧ 2 ≤ nc ∧ nc ≤ 3) : MM l G yX5_where cX5_where 6 (some .int) ⟨2, 0, 0, 43⟩ [.ref mh, .int pa, .int pb, .int pc] (MW G mh md nr nc pL pG pB pk bf hi sv ch hs inp ty er wy wd rf lt ln th tr mv fo sp wr td) (Qi_ G (fun (r : Int32) (u : (Bool)) => r = (if (isIx pa (nr * nc) && isIx pb (2 * (nr + nc))) = true then (if (decide (nI 0 ≤ pc ∧ pc ≤ nI 99)) = true then nI (whN nr nc (cl_ pa) (cl_ pb) (cl_ pc)) else nI 0) else nI 0)) (fun (u : (Bool)) => (MW G mh md nr nc pL pG pB pk bf hi sv ch hs inp ty er wy wd u lt ln (if (isIx pa (nr * nc) && isIx pb (2 * (nr + nc))) = true then (if (decide (nI 0 ≤ pc ∧ pc ≤ nI 99)) = true then nI 0 else nI 2) else nI 1) tr mv fo sp wr td))) := by
  refine MM.of (by decide) (Nat.le_of_ble_eq_true rfl) ?_
  intro p e s m args below meth cd A C hini hA hK hZ hP hD ls hl
  generalize hQ : MQ below ((Qi_ G (fun (r : Int32) (u : (Bool)) => r = (if (isIx pa (nr * nc) && isIx pb (2 * (nr + nc))) = true then (if (decide (nI 0 ≤ pc ∧ pc ≤ nI 99)) = true then nI (whN nr nc (cl_ pa) (cl_ pb) (cl_ pc)) else nI 0) else nI 0)) (fun (u : (Bool)) => (MW G mh md nr nc pL pG pB pk bf hi sv ch hs inp ty er wy wd u lt ln (if (isIx pa (nr * nc) && isIx pb (2 * (nr + nc))) = true then (if (decide (nI 0 ≤ pc ∧ pc ≤ nI 99)) = true then nI 0 else nI 2) else nI 1) tr mv fo sp wr td))) A) args s (⟨2, 0, 0, 43⟩ : Room).cells (⟨2, 0, 0, 43⟩ : Room).slots A = Q
  obtain ⟨hx, hb, hr, hts, hown, hlk, hml⟩ := C
  have hown : s.vm.findClass RX5 = some m.cls := hown
  have hS : va_S A s.heap s.heap [] := va_S.rf
  have hl : lv_has ls 6 [(0, .ref mh), (1, .int pa), (2, .int pb), (3, .int pc)] := hl
  have hmu := dm_mul hd
  refine lv_aload_n hx hb dX5_where_0 rfl (lv_at hl 0 rfl) ?_
  refine lv_iload_n hx hb dX5_where_1 rfl (lv_at hl 1 rfl) ?_
  refine callVi (As := [.int pa]) (rest := []) (wc := (MW G mh md nr nc pL pG pB pk bf hi sv ch hs inp ty er wy wd rf lt ln th tr mv fo sp wr td)) (wr := ([] : va_W)) ⟨hx, hb, hml, hown, hts⟩ (m_X5_isPlace l G mh md nr nc pL pG pB pk bf hi sv ch hs inp ty er wy wd rf lt ln th tr mv fo sp wr td pa (by first | assumption | omega)) (cwV 1 hts (lw_V q1837 q1839 qs42 q105 q1840) rfl rfl rfl (by decide +kernel) ⟨Nat.le_of_ble_eq_true rfl, Nat.le_of_ble_eq_true rfl⟩) hK hZ hA hP hD hS [0, 1, 2, 3, 4, 5, 6, 7, 8, 9] [] rfl rfl (by decide) (by decide) (by decide) 0 4 rfl rfl rfl hl.1 (Nat.le_of_ble_eq_true rfl) ⟨Nat.le_of_ble_eq_true rfl, Nat.le_of_ble_eq_true rfl⟩ rfl dX5_where_2 (fun r9 u9 H locs hw9 hP hD hS => ?_)
  subst hw9
  have hP : va_P G.1 CL (MW G mh md nr nc pL pG pB pk bf hi sv ch hs inp ty er wy wd rf lt ln th tr mv fo sp wr td) _ := hP
  have hD : va_D A (MW G mh md nr nc pL pG pB pk bf hi sv ch hs inp ty er wy wd rf lt ln th tr mv fo sp wr td) := hD
  refine b_if_eq (tgt := 16) hx hb dX5_where_5 (by decide) (fun c5 => ?_) (fun c5 => ?_)
  · skip
    have hwc : ¬ (isIx pa (nr * nc) && isIx pb (2 * (nr + nc))) = true := by rw [Bool.and_eq_true]; first | (rw [c5]; exact fun z => absurd z.1 (by decide)) | (rw [c13]; exact fun z => absurd z.2 (by decide))
    refine lv_aload_n hx hb dX5_where_16 rfl (lv_at hl 0 rfl) ?_
    refine lv_iconst (v := nI 1) hx hb dX5_where_17 (by decide) ?_
    refine callVi (As := [.int (nI 1)]) (rest := []) (wc := (MW G mh md nr nc pL pG pB pk bf hi sv ch hs inp ty er wy wd rf lt ln th tr mv fo sp wr td)) (wr := ([] : va_W)) ⟨hx, hb, hml, hown, hts⟩ (m_X5_fails l G mh md nr nc pL pG pB pk bf hi sv ch hs inp ty er wy wd rf lt ln th tr mv fo sp wr td (nI 1) ) (cwV 1 hts (lw_V q1813 q1815 qs37 q105 q1816) rfl rfl rfl (by decide +kernel) ⟨Nat.le_of_ble_eq_true rfl, Nat.le_of_ble_eq_true rfl⟩) hK hZ hA hP hD hS [0, 1, 2, 3, 4, 5, 6, 7, 8, 9] [] rfl rfl (by decide) (by decide) (by decide) 0 4 rfl rfl rfl hl.1 (Nat.le_of_ble_eq_true rfl) ⟨Nat.le_of_ble_eq_true rfl, Nat.le_of_ble_eq_true rfl⟩ rfl dX5_where_18 (fun r9 u9 H locs hw9 hP hD hS => ?_)
    subst hw9
    have hP : va_P G.1 CL (MW G mh md nr nc pL pG pB pk bf hi sv ch hs inp ty er wy wd false lt ln (nI 1) tr mv fo sp wr td) _ := hP
    have hD : va_D A (MW G mh md nr nc pL pG pB pk bf hi sv ch hs inp ty er wy wd false lt ln (nI 1) tr mv fo sp wr td) := hD
    have e_th : (nI 1) = (if (isIx pa (nr * nc) && isIx pb (2 * (nr + nc))) = true then (if (decide (nI 0 ≤ pc ∧ pc ≤ nI 99)) = true then nI 0 else nI 2) else nI 1) := (if_neg hwc).symm
    rw [e_th] at hP hD
    subst hQ
    exact ret_i hx hb hr hlk false (by rw [if_neg hwc]) hP hD hS rfl dX5_where_21
  · skip
    refine lv_aload_n hx hb dX5_where_8 rfl (lv_at hl 0 rfl) ?_
    refine lv_iload_n hx hb dX5_where_9 rfl (lv_at hl 2 rfl) ?_
    refine callVi (As := [.int pb]) (rest := []) (wc := (MW G mh md nr nc pL pG pB pk bf hi sv ch hs inp ty er wy wd rf lt ln th tr mv fo sp wr td)) (wr := ([] : va_W)) ⟨hx, hb, hml, hown, hts⟩ (m_X5_isTurn l G mh md nr nc pL pG pB pk bf hi sv ch hs inp ty er wy wd rf lt ln th tr mv fo sp wr td pb (by first | assumption | omega)) (cwV 1 hts (lw_V q1871 q1873 qs47 q105 q1874) rfl rfl rfl (by decide +kernel) ⟨Nat.le_of_ble_eq_true rfl, Nat.le_of_ble_eq_true rfl⟩) hK hZ hA hP hD hS [0, 1, 2, 3, 4, 5, 6, 7, 8, 9] [] rfl rfl (by decide) (by decide) (by decide) 0 4 rfl rfl rfl hl.1 (Nat.le_of_ble_eq_true rfl) ⟨Nat.le_of_ble_eq_true rfl, Nat.le_of_ble_eq_true rfl⟩ rfl dX5_where_10 (fun r9 u9 H locs hw9 hP hD hS => ?_)
    subst hw9
    have hP : va_P G.1 CL (MW G mh md nr nc pL pG pB pk bf hi sv ch hs inp ty er wy wd rf lt ln th tr mv fo sp wr td) _ := hP
    have hD : va_D A (MW G mh md nr nc pL pG pB pk bf hi sv ch hs inp ty er wy wd rf lt ln th tr mv fo sp wr td) := hD
    refine b_if_ne (tgt := 22) hx hb dX5_where_13 (by decide) (fun c13 => ?_) (fun c13 => ?_)
    · skip
      have hwc : (isIx pa (nr * nc) && isIx pb (2 * (nr + nc))) = true := by rw [c5, c13]; rfl
      refine lv_iload_n hx hb dX5_where_22 rfl (lv_at hl 3 rfl) ?_
      refine lv_iconst (v := nI 0) hx hb dX5_where_23 (by decide) ?_
      refine lv_bipush (v := nI 99) hx hb dX5_where_24 (by decide) ?_
      refine callSi (As := [.int pc, .int (nI 0), .int (nI 99)]) (rest := []) (wc := ([] : va_W)) (wr := (MW G mh md nr nc pL pG pB pk bf hi sv ch hs inp ty er wy wd rf lt ln th tr mv fo sp wr td)) ⟨hx, hb, hml, hown, hts⟩ (m_X5_in l G pc (nI 0) (nI 99) ) (va_cwS 3 hts (lw_S q1810 q1811 q105 q1812) rfl rfl rfl (by decide +kernel) ⟨Nat.le_of_ble_eq_true rfl, Nat.le_of_ble_eq_true rfl⟩) hK hZ hA hP hD hS [] [0, 1, 2, 3, 4, 5, 6, 7, 8, 9] rfl rfl (by decide) (by decide) (by decide) rfl hl.1 (Nat.le_of_ble_eq_true rfl) ⟨Nat.le_of_ble_eq_true rfl, Nat.le_of_ble_eq_true rfl⟩ rfl dX5_where_26 (fun r9 u9 H locs hw9 hP hD hS => ?_)
      subst hw9
      have hP : va_P G.1 CL (MW G mh md nr nc pL pG pB pk bf hi sv ch hs inp ty er wy wd rf lt ln th tr mv fo sp wr td) _ := hP
      have hD : va_D A (MW G mh md nr nc pL pG pB pk bf hi sv ch hs inp ty er wy wd rf lt ln th tr mv fo sp wr td) := hD
      refine b_if_ne (tgt := 38) hx hb dX5_where_29 (by decide) (fun c29 => ?_) (fun c29 => ?_)
      · skip
        obtain ⟨ka, hka, rfl⟩ := isIx_t c5 (by omega)
        obtain ⟨kb, hkb, rfl⟩ := isIx_t c13 (by omega)
        obtain ⟨kc, hkc1, hkc2, rfl⟩ := inR_nI c29 (by decide) (by decide)
        refine lv_iload_n hx hb dX5_where_38 rfl (lv_at hl 1 rfl) ?_
        refine lv_istore (lv' := [(4, .int (nI ka)), (0, .ref mh), (1, .int (nI ka)), (2, .int (nI kb)), (3, .int (nI kc))]) hx hb dX5_where_39 hl (by decide) rfl (fun ls hl => ?_)
        refine lv_iconst (v := nI 0) hx hb dX5_where_41 (by decide) ?_
        refine lv_istore (lv' := [(5, .int (nI 0)), (4, .int (nI ka)), (0, .ref mh), (1, .int (nI ka)), (2, .int (nI kb)), (3, .int (nI kc))]) hx hb dX5_where_42 hl (by decide) rfl (fun ls hl => ?_)
        have lp44 : ∀ (f : Nat) (k : Nat) (p9 : Nat), kc - k < f → (k ≤ kc) → (p9 = whN nr nc ka kb k) → ∀ (H : Heap) (locs : List Loc) (ls : Array Slot), va_P G.1 CL (MW G mh md nr nc pL pG pB pk bf hi sv ch hs inp ty er wy wd rf lt ln th tr mv fo sp wr td) H → va_D A (MW G mh md nr nc pL pG pB pk bf hi sv ch hs inp ty er wy wd rf lt ln th tr mv fo sp wr td) → va_S A s.heap H locs → lv_has ls 6 [(5, .int (nI k)), (4, .int (nI p9)), (0, .ref mh), (1, .int (nI ka)), (2, .int (nI kb)), (3, .int (nI kc))] → W p l e (⟨2, 0, 0, 43⟩ : Room) s m args below meth cd H locs 0 0 Q (F0 m 44 ls []) := by
          intro f
          induction f with
          | zero => intro k p9 hf; exact absurd hf (Nat.not_lt_zero _)
          | succ f ih44 =>
            intro k p9 hf hk9 hp9 H locs ls hP hD hS hl
            refine lv_iload hx hb dX5_where_44 (lv_at hl 0 rfl) ?_
            refine lv_iload_n hx hb dX5_where_46 rfl (lv_at hl 5 rfl) ?_
            refine n_cmp_ge (tgt := 65) hx hb dX5_where_47 (by decide) (by omega) (by omega) (fun c47 => ?_) (fun c47 => ?_)
            · skip
              refine lv_aload_n hx hb dX5_where_65 rfl (lv_at hl 2 rfl) ?_
              refine lv_iload hx hb dX5_where_66 (lv_at hl 1 rfl) ?_
              refine callVi (As := [.int (nI p9)]) (rest := []) (wc := (MW G mh md nr nc pL pG pB pk bf hi sv ch hs inp ty er wy wd rf lt ln th tr mv fo sp wr td)) (wr := ([] : va_W)) ⟨hx, hb, hml, hown, hts⟩ (m_X5_done l G mh md nr nc pL pG pB pk bf hi sv ch hs inp ty er wy wd rf lt ln th tr mv fo sp wr td (nI p9) ) (cwV 1 hts (lw_V q1821 q1823 qs39 q105 q1824) rfl rfl rfl (by decide +kernel) ⟨Nat.le_of_ble_eq_true rfl, Nat.le_of_ble_eq_true rfl⟩) hK hZ hA hP hD hS [0, 1, 2, 3, 4, 5, 6, 7, 8, 9] [] rfl rfl (by decide) (by decide) (by decide) 0 4 rfl rfl rfl hl.1 (Nat.le_of_ble_eq_true rfl) ⟨Nat.le_of_ble_eq_true rfl, Nat.le_of_ble_eq_true rfl⟩ rfl dX5_where_68 (fun r9 u9 H locs hw9 hP hD hS => ?_)
              subst hw9
              have hP : va_P G.1 CL (MW G mh md nr nc pL pG pB pk bf hi sv ch hs inp ty er wy wd rf lt ln (nI 0) tr mv fo sp wr td) _ := hP
              have hD : va_D A (MW G mh md nr nc pL pG pB pk bf hi sv ch hs inp ty er wy wd rf lt ln (nI 0) tr mv fo sp wr td) := hD
              have e_th : (nI 0) = (if (isIx (nI ka) (nr * nc) && isIx (nI kb) (2 * (nr + nc))) = true then (if (decide (nI 0 ≤ (nI kc) ∧ (nI kc) ≤ nI 99)) = true then nI 0 else nI 2) else nI 1) := (by rw [if_pos hwc, if_pos c29])
              rw [e_th] at hP hD
              subst hQ
              exact ret_i hx hb hr hlk rf (by rw [if_pos hwc, if_pos c29, cl_n (by omega), cl_n (by omega), cl_n (by omega), hp9, show k = kc by omega]) hP hD hS rfl dX5_where_71
            · skip
              refine lv_aload_n hx hb dX5_where_50 rfl (lv_at hl 2 rfl) ?_
              refine lv_iload hx hb dX5_where_51 (lv_at hl 1 rfl) ?_
              refine lv_iload_n hx hb dX5_where_53 rfl (lv_at hl 4 rfl) ?_
              refine callVi (As := [.int (nI p9), .int (nI kb)]) (rest := []) (wc := (MW G mh md nr nc pL pG pB pk bf hi sv ch hs inp ty er wy wd rf lt ln th tr mv fo sp wr td)) (wr := ([] : va_W)) ⟨hx, hb, hml, hown, hts⟩ (m_X5_goes l G mh md nr nc pL pG pB pk bf hi sv ch hs inp ty er wy wd rf lt ln th tr mv fo sp wr td p9 kb (by first | assumption | omega) (by rw [hp9]; exact (wh_it hd hkb hka).1) hkb) (cwV 2 hts (lw_V q1907 q1909 qs56 q105 q1910) rfl rfl rfl (by decide +kernel) ⟨Nat.le_of_ble_eq_true rfl, Nat.le_of_ble_eq_true rfl⟩) hK hZ hA hP hD hS [0, 1, 2, 3, 4, 5, 6, 7, 8, 9] [] rfl rfl (by decide) (by decide) (by decide) 0 4 rfl rfl rfl hl.1 (Nat.le_of_ble_eq_true rfl) ⟨Nat.le_of_ble_eq_true rfl, Nat.le_of_ble_eq_true rfl⟩ rfl dX5_where_54 (fun r9 u9 H locs hw9 hP hD hS => ?_)
              subst hw9
              have hP : va_P G.1 CL (MW G mh md nr nc pL pG pB pk bf hi sv ch hs inp ty er wy wd rf lt ln th tr mv fo sp wr td) _ := hP
              have hD : va_D A (MW G mh md nr nc pL pG pB pk bf hi sv ch hs inp ty er wy wd rf lt ln th tr mv fo sp wr td) := hD
              refine lv_istore (lv' := [(4, .int (nI (gs nr nc p9 kb))), (5, .int (nI k)), (0, .ref mh), (1, .int (nI ka)), (2, .int (nI kb)), (3, .int (nI kc))]) hx hb dX5_where_57 hl (by decide) rfl (fun ls hl => ?_)
              refine lv_iinc (v := nI (k + 1)) (lv' := [(5, .int (nI (k + 1))), (4, .int (nI (gs nr nc p9 kb))), (0, .ref mh), (1, .int (nI ka)), (2, .int (nI kb)), (3, .int (nI kc))]) hx hb dX5_where_59 hl (k := 1) rfl (nI_add _ _) (by decide) rfl (fun ls hl => ?_)
              refine lv_goto (tgt := 44) hx hb dX5_where_62 (by decide) ?_
              exact ih44 (k + 1) (gs nr nc p9 kb) (by omega) (by omega) (by rw [hp9]; exact (wh_it hd hkb hka).2) _ _ _ hP hD hS (lv_sub hl [0, 1, 2, 3, 4, 5] rfl)
        exact lp44 _ 0 ka (Nat.lt_succ_self _) (by omega) (wh_f3 hd hkb hka).1.symm _ _ _ hP hD hS (lv_sub hl [0, 1, 2, 3, 4, 5] rfl)
      · skip
        refine lv_aload_n hx hb dX5_where_32 rfl (lv_at hl 0 rfl) ?_
        refine lv_iconst (v := nI 2) hx hb dX5_where_33 (by decide) ?_
        refine callVi (As := [.int (nI 2)]) (rest := []) (wc := (MW G mh md nr nc pL pG pB pk bf hi sv ch hs inp ty er wy wd rf lt ln th tr mv fo sp wr td)) (wr := ([] : va_W)) ⟨hx, hb, hml, hown, hts⟩ (m_X5_fails l G mh md nr nc pL pG pB pk bf hi sv ch hs inp ty er wy wd rf lt ln th tr mv fo sp wr td (nI 2) ) (cwV 1 hts (lw_V q1813 q1815 qs37 q105 q1816) rfl rfl rfl (by decide +kernel) ⟨Nat.le_of_ble_eq_true rfl, Nat.le_of_ble_eq_true rfl⟩) hK hZ hA hP hD hS [0, 1, 2, 3, 4, 5, 6, 7, 8, 9] [] rfl rfl (by decide) (by decide) (by decide) 0 4 rfl rfl rfl hl.1 (Nat.le_of_ble_eq_true rfl) ⟨Nat.le_of_ble_eq_true rfl, Nat.le_of_ble_eq_true rfl⟩ rfl dX5_where_34 (fun r9 u9 H locs hw9 hP hD hS => ?_)
        subst hw9
        have hP : va_P G.1 CL (MW G mh md nr nc pL pG pB pk bf hi sv ch hs inp ty er wy wd false lt ln (nI 2) tr mv fo sp wr td) _ := hP
        have hD : va_D A (MW G mh md nr nc pL pG pB pk bf hi sv ch hs inp ty er wy wd false lt ln (nI 2) tr mv fo sp wr td) := hD
        have e_th : (nI 2) = (if (isIx pa (nr * nc) && isIx pb (2 * (nr + nc))) = true then (if (decide (nI 0 ≤ pc ∧ pc ≤ nI 99)) = true then nI 0 else nI 2) else nI 1) := (by rw [if_pos hwc, if_neg (by rw [c29]; decide)])
        rw [e_th] at hP hD
        subst hQ
        exact ret_i hx hb hr hlk false (by rw [if_pos hwc, if_neg (by rw [c29]; decide)]) hP hD hS rfl dX5_where_37
    · skip
      have hwc : ¬ (isIx pa (nr * nc) && isIx pb (2 * (nr + nc))) = true := by rw [Bool.and_eq_true]; first | (rw [c5]; exact fun z => absurd z.1 (by decide)) | (rw [c13]; exact fun z => absurd z.2 (by decide))
      refine lv_aload_n hx hb dX5_where_16 rfl (lv_at hl 0 rfl) ?_
      refine lv_iconst (v := nI 1) hx hb dX5_where_17 (by decide) ?_
      refine callVi (As := [.int (nI 1)]) (rest := []) (wc := (MW G mh md nr nc pL pG pB pk bf hi sv ch hs inp ty er wy wd rf lt ln th tr mv fo sp wr td)) (wr := ([] : va_W)) ⟨hx, hb, hml, hown, hts⟩ (m_X5_fails l G mh md nr nc pL pG pB pk bf hi sv ch hs inp ty er wy wd rf lt ln th tr mv fo sp wr td (nI 1) ) (cwV 1 hts (lw_V q1813 q1815 qs37 q105 q1816) rfl rfl rfl (by decide +kernel) ⟨Nat.le_of_ble_eq_true rfl, Nat.le_of_ble_eq_true rfl⟩) hK hZ hA hP hD hS [0, 1, 2, 3, 4, 5, 6, 7, 8, 9] [] rfl rfl (by decide) (by decide) (by decide) 0 4 rfl rfl rfl hl.1 (Nat.le_of_ble_eq_true rfl) ⟨Nat.le_of_ble_eq_true rfl, Nat.le_of_ble_eq_true rfl⟩ rfl dX5_where_18 (fun r9 u9 H locs hw9 hP hD hS => ?_)
      subst hw9
      have hP : va_P G.1 CL (MW G mh md nr nc pL pG pB pk bf hi sv ch hs inp ty er wy wd false lt ln (nI 1) tr mv fo sp wr td) _ := hP
      have hD : va_D A (MW G mh md nr nc pL pG pB pk bf hi sv ch hs inp ty er wy wd false lt ln (nI 1) tr mv fo sp wr td) := hD
      have e_th : (nI 1) = (if (isIx pa (nr * nc) && isIx pb (2 * (nr + nc))) = true then (if (decide (nI 0 ≤ pc ∧ pc ≤ nI 99)) = true then nI 0 else nI 2) else nI 1) := (if_neg hwc).symm
      rw [e_th] at hP hD
      subst hQ
      exact ret_i hx hb hr hlk false (by rw [if_neg hwc]) hP hD hS rfl dX5_where_21
set_option maxHeartbeats 4000000 in
set_option maxRecDepth 100000 in
theorem m_X5_round (l : Launch) (G : GG) (rx : Nat) (ry : Nat) (rn : Nat) (hx0 : rx < rn) (hy0 : ry < rn) (hn0 : rn < 1000) : MM l G yX5_round cX5_round 4 (some .int) ⟨0, 0, 0, 0⟩ [.int (nI rx), .int (nI ry), .int (nI rn)] ([] : va_W) (Qi_ G (fun (r : Int32) (_ : Unit) => r = nI (rdN rx ry rn)) (fun (_ : Unit) => ([] : va_W))) := by
  refine MM.of (by decide) (Nat.le_of_ble_eq_true rfl) ?_
  intro p e s m args below meth cd A C hini hA hK hZ hP hD ls hl
  generalize hQ : MQ below ((Qi_ G (fun (r : Int32) (_ : Unit) => r = nI (rdN rx ry rn)) (fun (_ : Unit) => ([] : va_W))) A) args s (⟨0, 0, 0, 0⟩ : Room).cells (⟨0, 0, 0, 0⟩ : Room).slots A = Q
  obtain ⟨hx, hb, hr, hts, hown, hlk, hml⟩ := C
  have hown : s.vm.findClass RX5 = some m.cls := hown
  have hS : va_S A s.heap s.heap [] := va_S.rf
  have hl : lv_has ls 4 [(0, .int (nI rx)), (1, .int (nI ry)), (2, .int (nI rn))] := hl
  refine lv_iload_n hx hb dX5_round_0 rfl (lv_at hl 0 rfl) ?_
  refine lv_iload_n hx hb dX5_round_1 rfl (lv_at hl 1 rfl) ?_
  refine n_cmp_ge (tgt := 11) hx hb dX5_round_2 (by decide) (by omega) (by omega) (fun c2 => ?_) (fun c2 => ?_)
  · skip
    refine lv_iload_n hx hb dX5_round_11 rfl (lv_at hl 0 rfl) ?_
    refine lv_iload_n hx hb dX5_round_12 rfl (lv_at hl 1 rfl) ?_
    refine n_isub hx hb (by omega) dX5_round_13 ?_
    refine lv_istore_n (lv' := [(3, .int (nI (rx - ry))), (0, .int (nI rx)), (1, .int (nI ry)), (2, .int (nI rn))]) hx hb dX5_round_14 rfl hl (by decide) rfl (fun ls hl => ?_)
    refine lv_iload_n hx hb dX5_round_15 rfl (lv_at hl 0 rfl) ?_
    refine lv_iload_n hx hb dX5_round_16 rfl (lv_at hl 3 rfl) ?_
    refine lv_iload_n hx hb dX5_round_17 rfl (lv_at hl 0 rfl) ?_
    refine n_isub hx hb (by omega) dX5_round_18 ?_
    refine n_cmp_ge (tgt := 26) hx hb dX5_round_19 (by decide) (by omega) (by omega) (fun c19 => ?_) (fun c19 => ?_)
    · skip
      refine lv_iload_n hx hb dX5_round_26 rfl (lv_at hl 3 rfl) ?_
      refine lv_iload_n hx hb dX5_round_27 rfl (lv_at hl 0 rfl) ?_
      refine n_isub hx hb (by omega) dX5_round_28 ?_
      subst hQ
      exact ret_i hx hb hr hlk () (congrArg nI (by unfold rdN; first | (rw [if_pos (show ry ≤ rx by omega)]; omega) | (rw [if_neg (show ¬ ry ≤ rx by omega)]; omega))) hP hD hS rfl dX5_round_29
    · skip
      refine lv_iload_n hx hb dX5_round_22 rfl (lv_at hl 0 rfl) ?_
      refine lv_goto (tgt := 29) hx hb dX5_round_23 (by decide) ?_
      subst hQ
      exact ret_i hx hb hr hlk () (congrArg nI (by unfold rdN; first | (rw [if_pos (show ry ≤ rx by omega)]; omega) | (rw [if_neg (show ¬ ry ≤ rx by omega)]; omega))) hP hD hS rfl dX5_round_29
  · skip
    refine lv_iload_n hx hb dX5_round_5 rfl (lv_at hl 1 rfl) ?_
    refine lv_iload_n hx hb dX5_round_6 rfl (lv_at hl 0 rfl) ?_
    refine n_isub hx hb (by omega) dX5_round_7 ?_
    refine lv_goto (tgt := 14) hx hb dX5_round_8 (by decide) ?_
    refine lv_istore_n (lv' := [(3, .int (nI (ry - rx))), (0, .int (nI rx)), (1, .int (nI ry)), (2, .int (nI rn))]) hx hb dX5_round_14 rfl hl (by decide) rfl (fun ls hl => ?_)
    refine lv_iload_n hx hb dX5_round_15 rfl (lv_at hl 0 rfl) ?_
    refine lv_iload_n hx hb dX5_round_16 rfl (lv_at hl 3 rfl) ?_
    refine lv_iload_n hx hb dX5_round_17 rfl (lv_at hl 0 rfl) ?_
    refine n_isub hx hb (by omega) dX5_round_18 ?_
    refine n_cmp_ge (tgt := 26) hx hb dX5_round_19 (by decide) (by omega) (by omega) (fun c19 => ?_) (fun c19 => ?_)
    · skip
      refine lv_iload_n hx hb dX5_round_26 rfl (lv_at hl 3 rfl) ?_
      refine lv_iload_n hx hb dX5_round_27 rfl (lv_at hl 0 rfl) ?_
      refine n_isub hx hb (by omega) dX5_round_28 ?_
      subst hQ
      exact ret_i hx hb hr hlk () (congrArg nI (by unfold rdN; first | (rw [if_pos (show ry ≤ rx by omega)]; omega) | (rw [if_neg (show ¬ ry ≤ rx by omega)]; omega))) hP hD hS rfl dX5_round_29
    · skip
      refine lv_iload_n hx hb dX5_round_22 rfl (lv_at hl 0 rfl) ?_
      refine lv_goto (tgt := 29) hx hb dX5_round_23 (by decide) ?_
      subst hQ
      exact ret_i hx hb hr hlk () (congrArg nI (by unfold rdN; first | (rw [if_pos (show ry ≤ rx by omega)]; omega) | (rw [if_neg (show ¬ ry ≤ rx by omega)]; omega))) hP hD hS rfl dX5_round_29
set_option maxHeartbeats 4000000 in
set_option maxRecDepth 100000 in
theorem m_X5_stepsBetween (l : Launch) (G : GG) (mh : Nat) (md : Nat → Nat) (nr : Nat) (nc : Nat) (pL : Nat → Nat) (pG : Nat → Nat) (pB : Nat → Bool) (pk : Nat → Int32) (bf : Nat → Int32) (hi : Nat → Int32) (sv : Nat → Int32) (ch : Nat) (hs : Bool) (inp : Nat → Nat) (ty : Nat) (er : Int32) (wy : Int32) (wd : Int32) (rf : Bool) (lt : Nat → Nat) (ln : Nat) (th : Int32) (tr : Nat → Nat) (mv : Nat → Nat) (fo : Int32) (sp : Nat) (wr : Bool) (td : Nat → Int32) (pp : Nat) (pq : Nat) (hd : 2 ≤ nr ∧ nr ≤ 3 ∧ 2 ≤ nc ∧ nc ≤ 3) (hp0 : pp < nr * nc) (hq0 : pq < nr * nc) : MM l G yX5_stepsBetween cX5_stepsBetween 4 (some .int) ⟨1, 0, 0, 23⟩ [.ref mh, .int (nI pp), .int (nI pq), .int (nI nc)] (MW G mh md nr nc pL pG pB pk bf hi sv ch hs inp ty er wy wd rf lt ln th tr mv fo sp wr td) (Qi_ G (fun (r : Int32) (_ : Unit) => r = nI (farN nr nc pp pq)) (fun (_ : Unit) => (MW G mh md nr nc pL pG pB pk bf hi sv ch hs inp ty er wy wd rf lt ln th tr mv fo sp wr td))) := by
  refine MM.of (by decide) (Nat.le_of_ble_eq_true rfl) ?_
  intro p e s m args below meth cd A C hini hA hK hZ hP hD ls hl
  generalize hQ : MQ below ((Qi_ G (fun (r : Int32) (_ : Unit) => r = nI (farN nr nc pp pq)) (fun (_ : Unit) => (MW G mh md nr nc pL pG pB pk bf hi sv ch hs inp ty er wy wd rf lt ln th tr mv fo sp wr td))) A) args s (⟨1, 0, 0, 23⟩ : Room).cells (⟨1, 0, 0, 23⟩ : Room).slots A = Q
  obtain ⟨hx, hb, hr, hts, hown, hlk, hml⟩ := C
  have hown : s.vm.findClass RX5 = some m.cls := hown
  have hS : va_S A s.heap s.heap [] := va_S.rf
  have hl : lv_has ls 4 [(0, .ref mh), (1, .int (nI pp)), (2, .int (nI pq)), (3, .int (nI nc))] := hl
  have hmu := dm_mul hd
  refine lv_iload_n hx hb dX5_stepsBetween_0 rfl (lv_at hl 1 rfl) ?_
  refine lv_iload_n hx hb dX5_stepsBetween_1 rfl (lv_at hl 3 rfl) ?_
  refine n_idiv hx hb (by omega) (by omega) (by omega) dX5_stepsBetween_2 ?_
  refine lv_iload_n hx hb dX5_stepsBetween_3 rfl (lv_at hl 2 rfl) ?_
  refine lv_iload_n hx hb dX5_stepsBetween_4 rfl (lv_at hl 3 rfl) ?_
  refine n_idiv hx hb (by omega) (by omega) (by omega) dX5_stepsBetween_5 ?_
  refine lv_aload_n hx hb dX5_stepsBetween_6 rfl (lv_at hl 0 rfl) ?_
  refine va_get (D := G.1) (ci := 4) (v := .ref (md 0)) (C := RX5) (T := TX5) (N := 21) hx hb hts in_X5 hown hK hP 0 rfl rfl 0 (by decide) (hts _ q1727) (fun _ h9 => h9) rfl dX5_stepsBetween_7 ?_
  refine lv_iconst (v := nI 0) hx hb dX5_stepsBetween_10 (by decide) ?_
  refine r_iald hx hb hK hP 1 3 rfl rfl (by omega) (by decide) dX5_stepsBetween_11 ?_
  refine eq_i (y := nI nr) rfl ?_
  refine callSi (As := [.int (nI (pp / nc)), .int (nI (pq / nc)), .int (nI nr)]) (rest := []) (wc := ([] : va_W)) (wr := (MW G mh md nr nc pL pG pB pk bf hi sv ch hs inp ty er wy wd rf lt ln th tr mv fo sp wr td)) ⟨hx, hb, hml, hown, hts⟩ (m_X5_round l G (pp / nc) (pq / nc) nr (div_ltm hp0) (div_ltm hq0) (by first | assumption | omega)) (va_cwS 3 hts (lw_S q2043 q2044 q105 q2045) rfl rfl rfl (by decide +kernel) ⟨Nat.le_of_ble_eq_true rfl, Nat.le_of_ble_eq_true rfl⟩) hK hZ hA hP hD hS [] [0, 1, 2, 3, 4, 5, 6, 7, 8, 9] rfl rfl (by decide) (by decide) (by decide) rfl hl.1 (Nat.le_of_ble_eq_true rfl) ⟨Nat.le_of_ble_eq_true rfl, Nat.le_of_ble_eq_true rfl⟩ rfl dX5_stepsBetween_12 (fun r9 u9 H locs hw9 hP hD hS => ?_)
  subst hw9
  have hP : va_P G.1 CL (MW G mh md nr nc pL pG pB pk bf hi sv ch hs inp ty er wy wd rf lt ln th tr mv fo sp wr td) _ := hP
  have hD : va_D A (MW G mh md nr nc pL pG pB pk bf hi sv ch hs inp ty er wy wd rf lt ln th tr mv fo sp wr td) := hD
  refine lv_iload_n hx hb dX5_stepsBetween_15 rfl (lv_at hl 1 rfl) ?_
  refine lv_iload_n hx hb dX5_stepsBetween_16 rfl (lv_at hl 3 rfl) ?_
  refine n_irem hx hb (by omega) (by omega) (by omega) dX5_stepsBetween_17 ?_
  refine lv_iload_n hx hb dX5_stepsBetween_18 rfl (lv_at hl 2 rfl) ?_
  refine lv_iload_n hx hb dX5_stepsBetween_19 rfl (lv_at hl 3 rfl) ?_
  refine n_irem hx hb (by omega) (by omega) (by omega) dX5_stepsBetween_20 ?_
  refine lv_iload_n hx hb dX5_stepsBetween_21 rfl (lv_at hl 3 rfl) ?_
  refine callSi (As := [.int (nI (pp % nc)), .int (nI (pq % nc)), .int (nI nc)]) (rest := [.int (nI (rdN (pp / nc) (pq / nc) nr))]) (wc := ([] : va_W)) (wr := (MW G mh md nr nc pL pG pB pk bf hi sv ch hs inp ty er wy wd rf lt ln th tr mv fo sp wr td)) ⟨hx, hb, hml, hown, hts⟩ (m_X5_round l G (pp % nc) (pq % nc) nc (Nat.mod_lt _ (by omega)) (Nat.mod_lt _ (by omega)) (by first | assumption | omega)) (va_cwS 3 hts (lw_S q2043 q2044 q105 q2045) rfl rfl rfl (by decide +kernel) ⟨Nat.le_of_ble_eq_true rfl, Nat.le_of_ble_eq_true rfl⟩) hK hZ hA hP hD hS [] [0, 1, 2, 3, 4, 5, 6, 7, 8, 9] rfl rfl (by decide) (by decide) (by decide) rfl hl.1 (Nat.le_of_ble_eq_true rfl) ⟨Nat.le_of_ble_eq_true rfl, Nat.le_of_ble_eq_true rfl⟩ rfl dX5_stepsBetween_22 (fun r9 u9 H locs hw9 hP hD hS => ?_)
  subst hw9
  have hP : va_P G.1 CL (MW G mh md nr nc pL pG pB pk bf hi sv ch hs inp ty er wy wd rf lt ln th tr mv fo sp wr td) _ := hP
  have hD : va_D A (MW G mh md nr nc pL pG pB pk bf hi sv ch hs inp ty er wy wd rf lt ln th tr mv fo sp wr td) := hD
  refine n_iadd hx hb dX5_stepsBetween_25 ?_
  subst hQ
  exact ret_i hx hb hr hlk () rfl hP hD hS rfl dX5_stepsBetween_26
set_option maxHeartbeats 4000000 in
set_option maxRecDepth 100000 in
theorem m_X5_far (l : Launch) (G : GG) (mh : Nat) (md : Nat → Nat) (nr : Nat) (nc : Nat) (pL : Nat → Nat) (pG : Nat → Nat) (pB : Nat → Bool) (pk : Nat → Int32) (bf : Nat → Int32) (hi : Nat → Int32) (sv : Nat → Int32) (ch : Nat) (hs : Bool) (inp : Nat → Nat) (ty : Nat) (er : Int32) (wy : Int32) (wd : Int32) (rf : Bool) (lt : Nat → Nat) (ln : Nat) (th : Int32) (tr : Nat → Nat) (mv : Nat → Nat) (fo : Int32) (sp : Nat) (wr : Bool) (td : Nat → Int32) (pa : Int32) (pb : Int32) (hd : 2 ≤ nr ∧ nr ≤ 3 ∧ 2 ≤ nc ∧ nc ≤ 3) : MM l G yX5_far cX5_far 3 (some .int) ⟨2, 0, 0, 46⟩ [.ref mh, .int pa, .int pb] (MW G mh md nr nc pL pG pB pk bf hi sv ch hs inp ty er wy wd rf lt ln th tr mv fo sp wr td) (Qi_ G (fun (r : Int32) (u : (Bool)) => r = (if (isIx pa (nr * nc) && isIx pb (nr * nc)) = true then nI (farN nr nc (cl_ pa) (cl_ pb)) else nI 0)) (fun (u : (Bool)) => (MW G mh md nr nc pL pG pB pk bf hi sv ch hs inp ty er wy wd u lt ln (if (isIx pa (nr * nc) && isIx pb (nr * nc)) = true then nI 0 else nI 1) tr mv fo sp wr td))) := by
  refine MM.of (by decide) (Nat.le_of_ble_eq_true rfl) ?_
  intro p e s m args below meth cd A C hini hA hK hZ hP hD ls hl
  generalize hQ : MQ below ((Qi_ G (fun (r : Int32) (u : (Bool)) => r = (if (isIx pa (nr * nc) && isIx pb (nr * nc)) = true then nI (farN nr nc (cl_ pa) (cl_ pb)) else nI 0)) (fun (u : (Bool)) => (MW G mh md nr nc pL pG pB pk bf hi sv ch hs inp ty er wy wd u lt ln (if (isIx pa (nr * nc) && isIx pb (nr * nc)) = true then nI 0 else nI 1) tr mv fo sp wr td))) A) args s (⟨2, 0, 0, 46⟩ : Room).cells (⟨2, 0, 0, 46⟩ : Room).slots A = Q
  obtain ⟨hx, hb, hr, hts, hown, hlk, hml⟩ := C
  have hown : s.vm.findClass RX5 = some m.cls := hown
  have hS : va_S A s.heap s.heap [] := va_S.rf
  have hl : lv_has ls 3 [(0, .ref mh), (1, .int pa), (2, .int pb)] := hl
  have hmu := dm_mul hd
  refine lv_aload_n hx hb dX5_far_0 rfl (lv_at hl 0 rfl) ?_
  refine lv_iload_n hx hb dX5_far_1 rfl (lv_at hl 1 rfl) ?_
  refine callVi (As := [.int pa]) (rest := []) (wc := (MW G mh md nr nc pL pG pB pk bf hi sv ch hs inp ty er wy wd rf lt ln th tr mv fo sp wr td)) (wr := ([] : va_W)) ⟨hx, hb, hml, hown, hts⟩ (m_X5_isPlace l G mh md nr nc pL pG pB pk bf hi sv ch hs inp ty er wy wd rf lt ln th tr mv fo sp wr td pa (by first | assumption | omega)) (cwV 1 hts (lw_V q1837 q1839 qs42 q105 q1840) rfl rfl rfl (by decide +kernel) ⟨Nat.le_of_ble_eq_true rfl, Nat.le_of_ble_eq_true rfl⟩) hK hZ hA hP hD hS [0, 1, 2, 3, 4, 5, 6, 7, 8, 9] [] rfl rfl (by decide) (by decide) (by decide) 0 4 rfl rfl rfl hl.1 (Nat.le_of_ble_eq_true rfl) ⟨Nat.le_of_ble_eq_true rfl, Nat.le_of_ble_eq_true rfl⟩ rfl dX5_far_2 (fun r9 u9 H locs hw9 hP hD hS => ?_)
  subst hw9
  have hP : va_P G.1 CL (MW G mh md nr nc pL pG pB pk bf hi sv ch hs inp ty er wy wd rf lt ln th tr mv fo sp wr td) _ := hP
  have hD : va_D A (MW G mh md nr nc pL pG pB pk bf hi sv ch hs inp ty er wy wd rf lt ln th tr mv fo sp wr td) := hD
  refine b_if_eq (tgt := 35) hx hb dX5_far_5 (by decide) (fun c5 => ?_) (fun c5 => ?_)
  · skip
    have hwc : ¬ (isIx pa (nr * nc) && isIx pb (nr * nc)) = true := by rw [Bool.and_eq_true]; first | (rw [c5]; exact fun z => absurd z.1 (by decide)) | (rw [c13]; exact fun z => absurd z.2 (by decide))
    refine lv_aload_n hx hb dX5_far_35 rfl (lv_at hl 0 rfl) ?_
    refine lv_iconst (v := nI 1) hx hb dX5_far_36 (by decide) ?_
    refine callVi (As := [.int (nI 1)]) (rest := []) (wc := (MW G mh md nr nc pL pG pB pk bf hi sv ch hs inp ty er wy wd rf lt ln th tr mv fo sp wr td)) (wr := ([] : va_W)) ⟨hx, hb, hml, hown, hts⟩ (m_X5_fails l G mh md nr nc pL pG pB pk bf hi sv ch hs inp ty er wy wd rf lt ln th tr mv fo sp wr td (nI 1) ) (cwV 1 hts (lw_V q1813 q1815 qs37 q105 q1816) rfl rfl rfl (by decide +kernel) ⟨Nat.le_of_ble_eq_true rfl, Nat.le_of_ble_eq_true rfl⟩) hK hZ hA hP hD hS [0, 1, 2, 3, 4, 5, 6, 7, 8, 9] [] rfl rfl (by decide) (by decide) (by decide) 0 4 rfl rfl rfl hl.1 (Nat.le_of_ble_eq_true rfl) ⟨Nat.le_of_ble_eq_true rfl, Nat.le_of_ble_eq_true rfl⟩ rfl dX5_far_37 (fun r9 u9 H locs hw9 hP hD hS => ?_)
    subst hw9
    have hP : va_P G.1 CL (MW G mh md nr nc pL pG pB pk bf hi sv ch hs inp ty er wy wd false lt ln (nI 1) tr mv fo sp wr td) _ := hP
    have hD : va_D A (MW G mh md nr nc pL pG pB pk bf hi sv ch hs inp ty er wy wd false lt ln (nI 1) tr mv fo sp wr td) := hD
    have e_th : (nI 1) = (if (isIx pa (nr * nc) && isIx pb (nr * nc)) = true then nI 0 else nI 1) := (if_neg hwc).symm
    rw [e_th] at hP hD
    subst hQ
    exact ret_i hx hb hr hlk false (by rw [if_neg hwc]) hP hD hS rfl dX5_far_40
  · skip
    refine lv_aload_n hx hb dX5_far_8 rfl (lv_at hl 0 rfl) ?_
    refine lv_iload_n hx hb dX5_far_9 rfl (lv_at hl 2 rfl) ?_
    refine callVi (As := [.int pb]) (rest := []) (wc := (MW G mh md nr nc pL pG pB pk bf hi sv ch hs inp ty er wy wd rf lt ln th tr mv fo sp wr td)) (wr := ([] : va_W)) ⟨hx, hb, hml, hown, hts⟩ (m_X5_isPlace l G mh md nr nc pL pG pB pk bf hi sv ch hs inp ty er wy wd rf lt ln th tr mv fo sp wr td pb (by first | assumption | omega)) (cwV 1 hts (lw_V q1837 q1839 qs42 q105 q1840) rfl rfl rfl (by decide +kernel) ⟨Nat.le_of_ble_eq_true rfl, Nat.le_of_ble_eq_true rfl⟩) hK hZ hA hP hD hS [0, 1, 2, 3, 4, 5, 6, 7, 8, 9] [] rfl rfl (by decide) (by decide) (by decide) 0 4 rfl rfl rfl hl.1 (Nat.le_of_ble_eq_true rfl) ⟨Nat.le_of_ble_eq_true rfl, Nat.le_of_ble_eq_true rfl⟩ rfl dX5_far_10 (fun r9 u9 H locs hw9 hP hD hS => ?_)
    subst hw9
    have hP : va_P G.1 CL (MW G mh md nr nc pL pG pB pk bf hi sv ch hs inp ty er wy wd rf lt ln th tr mv fo sp wr td) _ := hP
    have hD : va_D A (MW G mh md nr nc pL pG pB pk bf hi sv ch hs inp ty er wy wd rf lt ln th tr mv fo sp wr td) := hD
    refine b_if_eq (tgt := 35) hx hb dX5_far_13 (by decide) (fun c13 => ?_) (fun c13 => ?_)
    · skip
      have hwc : ¬ (isIx pa (nr * nc) && isIx pb (nr * nc)) = true := by rw [Bool.and_eq_true]; first | (rw [c5]; exact fun z => absurd z.1 (by decide)) | (rw [c13]; exact fun z => absurd z.2 (by decide))
      refine lv_aload_n hx hb dX5_far_35 rfl (lv_at hl 0 rfl) ?_
      refine lv_iconst (v := nI 1) hx hb dX5_far_36 (by decide) ?_
      refine callVi (As := [.int (nI 1)]) (rest := []) (wc := (MW G mh md nr nc pL pG pB pk bf hi sv ch hs inp ty er wy wd rf lt ln th tr mv fo sp wr td)) (wr := ([] : va_W)) ⟨hx, hb, hml, hown, hts⟩ (m_X5_fails l G mh md nr nc pL pG pB pk bf hi sv ch hs inp ty er wy wd rf lt ln th tr mv fo sp wr td (nI 1) ) (cwV 1 hts (lw_V q1813 q1815 qs37 q105 q1816) rfl rfl rfl (by decide +kernel) ⟨Nat.le_of_ble_eq_true rfl, Nat.le_of_ble_eq_true rfl⟩) hK hZ hA hP hD hS [0, 1, 2, 3, 4, 5, 6, 7, 8, 9] [] rfl rfl (by decide) (by decide) (by decide) 0 4 rfl rfl rfl hl.1 (Nat.le_of_ble_eq_true rfl) ⟨Nat.le_of_ble_eq_true rfl, Nat.le_of_ble_eq_true rfl⟩ rfl dX5_far_37 (fun r9 u9 H locs hw9 hP hD hS => ?_)
      subst hw9
      have hP : va_P G.1 CL (MW G mh md nr nc pL pG pB pk bf hi sv ch hs inp ty er wy wd false lt ln (nI 1) tr mv fo sp wr td) _ := hP
      have hD : va_D A (MW G mh md nr nc pL pG pB pk bf hi sv ch hs inp ty er wy wd false lt ln (nI 1) tr mv fo sp wr td) := hD
      have e_th : (nI 1) = (if (isIx pa (nr * nc) && isIx pb (nr * nc)) = true then nI 0 else nI 1) := (if_neg hwc).symm
      rw [e_th] at hP hD
      subst hQ
      exact ret_i hx hb hr hlk false (by rw [if_neg hwc]) hP hD hS rfl dX5_far_40
    · skip
      obtain ⟨ka, hka, rfl⟩ := isIx_t c5 (by omega)
      obtain ⟨kb, hkb, rfl⟩ := isIx_t c13 (by omega)
      refine lv_aload_n hx hb dX5_far_16 rfl (lv_at hl 0 rfl) ?_
      refine lv_aload_n hx hb dX5_far_17 rfl (lv_at hl 0 rfl) ?_
      refine lv_iload_n hx hb dX5_far_18 rfl (lv_at hl 1 rfl) ?_
      refine lv_iload_n hx hb dX5_far_19 rfl (lv_at hl 2 rfl) ?_
      refine lv_aload_n hx hb dX5_far_20 rfl (lv_at hl 0 rfl) ?_
      refine va_get (D := G.1) (ci := 4) (v := .ref (md 0)) (C := RX5) (T := TX5) (N := 21) hx hb hts in_X5 hown hK hP 0 rfl rfl 0 (by decide) (hts _ q1727) (fun _ h9 => h9) rfl dX5_far_21 ?_
      refine lv_iconst (v := nI 1) hx hb dX5_far_24 (by decide) ?_
      refine r_iald hx hb hK hP 1 3 rfl rfl (by omega) (by decide) dX5_far_25 ?_
      refine eq_i (y := nI nc) rfl ?_
      refine callVi (As := [.int (nI ka), .int (nI kb), .int (nI nc)]) (rest := [.ref mh]) (wc := (MW G mh md nr nc pL pG pB pk bf hi sv ch hs inp ty er wy wd rf lt ln th tr mv fo sp wr td)) (wr := ([] : va_W)) ⟨hx, hb, hml, hown, hts⟩ (m_X5_stepsBetween l G mh md nr nc pL pG pB pk bf hi sv ch hs inp ty er wy wd rf lt ln th tr mv fo sp wr td ka kb (by first | assumption | omega) (by first | assumption | omega) (by first | assumption | omega)) (cwV 3 hts (lw_V q2039 q2041 qs72 q105 q2042) rfl rfl rfl (by decide +kernel) ⟨Nat.le_of_ble_eq_true rfl, Nat.le_of_ble_eq_true rfl⟩) hK hZ hA hP hD hS [0, 1, 2, 3, 4, 5, 6, 7, 8, 9] [] rfl rfl (by decide) (by decide) (by decide) 0 4 rfl rfl rfl hl.1 (Nat.le_of_ble_eq_true rfl) ⟨Nat.le_of_ble_eq_true rfl, Nat.le_of_ble_eq_true rfl⟩ rfl dX5_far_26 (fun r9 u9 H locs hw9 hP hD hS => ?_)
      subst hw9
      have hP : va_P G.1 CL (MW G mh md nr nc pL pG pB pk bf hi sv ch hs inp ty er wy wd rf lt ln th tr mv fo sp wr td) _ := hP
      have hD : va_D A (MW G mh md nr nc pL pG pB pk bf hi sv ch hs inp ty er wy wd rf lt ln th tr mv fo sp wr td) := hD
      refine callVi (As := [.int (nI (farN nr nc ka kb))]) (rest := []) (wc := (MW G mh md nr nc pL pG pB pk bf hi sv ch hs inp ty er wy wd rf lt ln th tr mv fo sp wr td)) (wr := ([] : va_W)) ⟨hx, hb, hml, hown, hts⟩ (m_X5_done l G mh md nr nc pL pG pB pk bf hi sv ch hs inp ty er wy wd rf lt ln th tr mv fo sp wr td (nI (farN nr nc ka kb)) ) (cwV 1 hts (lw_V q1821 q1823 qs39 q105 q1824) rfl rfl rfl (by decide +kernel) ⟨Nat.le_of_ble_eq_true rfl, Nat.le_of_ble_eq_true rfl⟩) hK hZ hA hP hD hS [0, 1, 2, 3, 4, 5, 6, 7, 8, 9] [] rfl rfl (by decide) (by decide) (by decide) 0 4 rfl rfl rfl hl.1 (Nat.le_of_ble_eq_true rfl) ⟨Nat.le_of_ble_eq_true rfl, Nat.le_of_ble_eq_true rfl⟩ rfl dX5_far_29 (fun r9 u9 H locs hw9 hP hD hS => ?_)
      subst hw9
      have hP : va_P G.1 CL (MW G mh md nr nc pL pG pB pk bf hi sv ch hs inp ty er wy wd rf lt ln (nI 0) tr mv fo sp wr td) _ := hP
      have hD : va_D A (MW G mh md nr nc pL pG pB pk bf hi sv ch hs inp ty er wy wd rf lt ln (nI 0) tr mv fo sp wr td) := hD
      refine lv_goto (tgt := 40) hx hb dX5_far_32 (by decide) ?_
      have e_th : (nI 0) = (if (isIx (nI ka) (nr * nc) && isIx (nI kb) (nr * nc)) = true then nI 0 else nI 1) := (if_pos (by rw [c5, c13]; rfl)).symm
      rw [e_th] at hP hD
      subst hQ
      exact ret_i hx hb hr hlk rf (by rw [if_pos (by rw [c5, c13]; rfl), cl_n (by omega), cl_n (by omega)]) hP hD hS rfl dX5_far_40
set_option maxHeartbeats 4000000 in
set_option maxRecDepth 100000 in
theorem m_X5_lengthOf (l : Launch) (G : GG) (mh : Nat) (md : Nat → Nat) (nr : Nat) (nc : Nat) (pL : Nat → Nat) (pG : Nat → Nat) (pB : Nat → Bool) (pk : Nat → Int32) (bf : Nat → Int32) (hi : Nat → Int32) (sv : Nat → Int32) (ch : Nat) (hs : Bool) (inp : Nat → Nat) (ty : Nat) (er : Int32) (wy : Int32) (wd : Int32) (rf : Bool) (lt : Nat → Nat) (ln : Nat) (th : Int32) (tr : Nat → Nat) (mv : Nat → Nat) (fo : Int32) (sp : Nat) (wr : Bool) (td : Nat → Int32) (ll : Nat) (hd : 2 ≤ nr ∧ nr ≤ 3 ∧ 2 ≤ nc ∧ nc ≤ 3) (hl0 : ll < 1000) : MM l G yX5_lengthOf cX5_lengthOf 2 (some .int) ⟨0, 0, 0, 0⟩ [.ref mh, .int (nI ll)] (MW G mh md nr nc pL pG pB pk bf hi sv ch hs inp ty er wy wd rf lt ln th tr mv fo sp wr td) (Qi_ G (fun (r : Int32) (_ : Unit) => r = nI (szOf nr nc ll)) (fun (_ : Unit) => (MW G mh md nr nc pL pG pB pk bf hi sv ch hs inp ty er wy wd rf lt ln th tr mv fo sp wr td))) := by
  refine MM.of (by decide) (Nat.le_of_ble_eq_true rfl) ?_
  intro p e s m args below meth cd A C hini hA hK hZ hP hD ls hl
  generalize hQ : MQ below ((Qi_ G (fun (r : Int32) (_ : Unit) => r = nI (szOf nr nc ll)) (fun (_ : Unit) => (MW G mh md nr nc pL pG pB pk bf hi sv ch hs inp ty er wy wd rf lt ln th tr mv fo sp wr td))) A) args s (⟨0, 0, 0, 0⟩ : Room).cells (⟨0, 0, 0, 0⟩ : Room).slots A = Q
  obtain ⟨hx, hb, hr, hts, hown, hlk, hml⟩ := C
  have hown : s.vm.findClass RX5 = some m.cls := hown
  have hS : va_S A s.heap s.heap [] := va_S.rf
  have hl : lv_has ls 2 [(0, .ref mh), (1, .int (nI ll))] := hl
  have hmu := dm_mul hd
  refine lv_iload_n hx hb dX5_lengthOf_0 rfl (lv_at hl 1 rfl) ?_
  refine lv_aload_n hx hb dX5_lengthOf_1 rfl (lv_at hl 0 rfl) ?_
  refine va_get (D := G.1) (ci := 4) (v := .ref (md 0)) (C := RX5) (T := TX5) (N := 21) hx hb hts in_X5 hown hK hP 0 rfl rfl 0 (by decide) (hts _ q1727) (fun _ h9 => h9) rfl dX5_lengthOf_2 ?_
  refine lv_iconst (v := nI 0) hx hb dX5_lengthOf_5 (by decide) ?_
  refine r_iald hx hb hK hP 1 3 rfl rfl (by omega) (by decide) dX5_lengthOf_6 ?_
  refine eq_i (y := nI nr) rfl ?_
  refine n_cmp_ge (tgt := 19) hx hb dX5_lengthOf_7 (by decide) (by omega) (by omega) (fun c7 => ?_) (fun c7 => ?_)
  · skip
    refine lv_aload_n hx hb dX5_lengthOf_19 rfl (lv_at hl 0 rfl) ?_
    refine va_get (D := G.1) (ci := 4) (v := .ref (md 0)) (C := RX5) (T := TX5) (N := 21) hx hb hts in_X5 hown hK hP 0 rfl rfl 0 (by decide) (hts _ q1727) (fun _ h9 => h9) rfl dX5_lengthOf_20 ?_
    refine lv_iconst (v := nI 0) hx hb dX5_lengthOf_23 (by decide) ?_
    refine r_iald hx hb hK hP 1 3 rfl rfl (by omega) (by decide) dX5_lengthOf_24 ?_
    refine eq_i (y := nI nr) rfl ?_
    subst hQ
    exact ret_i hx hb hr hlk () (by rw [szOf, if_neg (by omega)]) hP hD hS rfl dX5_lengthOf_25
  · skip
    refine lv_aload_n hx hb dX5_lengthOf_10 rfl (lv_at hl 0 rfl) ?_
    refine va_get (D := G.1) (ci := 4) (v := .ref (md 0)) (C := RX5) (T := TX5) (N := 21) hx hb hts in_X5 hown hK hP 0 rfl rfl 0 (by decide) (hts _ q1727) (fun _ h9 => h9) rfl dX5_lengthOf_11 ?_
    refine lv_iconst (v := nI 1) hx hb dX5_lengthOf_14 (by decide) ?_
    refine r_iald hx hb hK hP 1 3 rfl rfl (by omega) (by decide) dX5_lengthOf_15 ?_
    refine eq_i (y := nI nc) rfl ?_
    refine lv_goto (tgt := 25) hx hb dX5_lengthOf_16 (by decide) ?_
    subst hQ
    exact ret_i hx hb hr hlk () (by rw [szOf, if_pos (by omega)]) hP hD hS rfl dX5_lengthOf_25
set_option maxHeartbeats 4000000 in
set_option maxRecDepth 100000 in
theorem m_X5_placeOn (l : Launch) (G : GG) (mh : Nat) (md : Nat → Nat) (nr : Nat) (nc : Nat) (pL : Nat → Nat) (pG : Nat → Nat) (pB : Nat → Bool) (pk : Nat → Int32) (bf : Nat → Int32) (hi : Nat → Int32) (sv : Nat → Int32) (ch : Nat) (hs : Bool) (inp : Nat → Nat) (ty : Nat) (er : Int32) (wy : Int32) (wd : Int32) (rf : Bool) (lt : Nat → Nat) (ln : Nat) (th : Int32) (tr : Nat → Nat) (mv : Nat → Nat) (fo : Int32) (sp : Nat) (wr : Bool) (td : Nat → Int32) (ll : Nat) (kk : Nat) (hd : 2 ≤ nr ∧ nr ≤ 3 ∧ 2 ≤ nc ∧ nc ≤ 3) (hl0 : ll < 1000) : MM l G yX5_placeOn cX5_placeOn 3 (some .int) ⟨0, 0, 0, 0⟩ [.ref mh, .int (nI ll), .int (nI kk)] (MW G mh md nr nc pL pG pB pk bf hi sv ch hs inp ty er wy wd rf lt ln th tr mv fo sp wr td) (Qi_ G (fun (r : Int32) (_ : Unit) => r = nI (plOn nr nc ll kk)) (fun (_ : Unit) => (MW G mh md nr nc pL pG pB pk bf hi sv ch hs inp ty er wy wd rf lt ln th tr mv fo sp wr td))) := by
  refine MM.of (by decide) (Nat.le_of_ble_eq_true rfl) ?_
  intro p e s m args below meth cd A C hini hA hK hZ hP hD ls hl
  generalize hQ : MQ below ((Qi_ G (fun (r : Int32) (_ : Unit) => r = nI (plOn nr nc ll kk)) (fun (_ : Unit) => (MW G mh md nr nc pL pG pB pk bf hi sv ch hs inp ty er wy wd rf lt ln th tr mv fo sp wr td))) A) args s (⟨0, 0, 0, 0⟩ : Room).cells (⟨0, 0, 0, 0⟩ : Room).slots A = Q
  obtain ⟨hx, hb, hr, hts, hown, hlk, hml⟩ := C
  have hown : s.vm.findClass RX5 = some m.cls := hown
  have hS : va_S A s.heap s.heap [] := va_S.rf
  have hl : lv_has ls 3 [(0, .ref mh), (1, .int (nI ll)), (2, .int (nI kk))] := hl
  have hmu := dm_mul hd
  refine lv_iload_n hx hb dX5_placeOn_0 rfl (lv_at hl 1 rfl) ?_
  refine lv_aload_n hx hb dX5_placeOn_1 rfl (lv_at hl 0 rfl) ?_
  refine va_get (D := G.1) (ci := 4) (v := .ref (md 0)) (C := RX5) (T := TX5) (N := 21) hx hb hts in_X5 hown hK hP 0 rfl rfl 0 (by decide) (hts _ q1727) (fun _ h9 => h9) rfl dX5_placeOn_2 ?_
  refine lv_iconst (v := nI 0) hx hb dX5_placeOn_5 (by decide) ?_
  refine r_iald hx hb hK hP 1 3 rfl rfl (by omega) (by decide) dX5_placeOn_6 ?_
  refine eq_i (y := nI nr) rfl ?_
  refine n_cmp_ge (tgt := 23) hx hb dX5_placeOn_7 (by decide) (by omega) (by omega) (fun c7 => ?_) (fun c7 => ?_)
  · skip
    refine lv_aload_n hx hb dX5_placeOn_23 rfl (lv_at hl 0 rfl) ?_
    refine va_get (D := G.1) (ci := 4) (v := .ref (md 0)) (C := RX5) (T := TX5) (N := 21) hx hb hts in_X5 hown hK hP 0 rfl rfl 0 (by decide) (hts _ q1727) (fun _ h9 => h9) rfl dX5_placeOn_24 ?_
    refine lv_iconst (v := nI 1) hx hb dX5_placeOn_27 (by decide) ?_
    refine r_iald hx hb hK hP 1 3 rfl rfl (by omega) (by decide) dX5_placeOn_28 ?_
    refine eq_i (y := nI nc) rfl ?_
    refine lv_iload_n hx hb dX5_placeOn_29 rfl (lv_at hl 2 rfl) ?_
    refine n_imul hx hb dX5_placeOn_30 ?_
    refine lv_iload_n hx hb dX5_placeOn_31 rfl (lv_at hl 1 rfl) ?_
    refine n_iadd hx hb dX5_placeOn_32 ?_
    refine lv_aload_n hx hb dX5_placeOn_33 rfl (lv_at hl 0 rfl) ?_
    refine va_get (D := G.1) (ci := 4) (v := .ref (md 0)) (C := RX5) (T := TX5) (N := 21) hx hb hts in_X5 hown hK hP 0 rfl rfl 0 (by decide) (hts _ q1727) (fun _ h9 => h9) rfl dX5_placeOn_34 ?_
    refine lv_iconst (v := nI 0) hx hb dX5_placeOn_37 (by decide) ?_
    refine r_iald hx hb hK hP 1 3 rfl rfl (by omega) (by decide) dX5_placeOn_38 ?_
    refine eq_i (y := nI nr) rfl ?_
    refine n_isub hx hb (Nat.le_trans (show nr ≤ ll by omega) (Nat.le_add_left _ _)) dX5_placeOn_39 ?_
    subst hQ
    exact ret_i hx hb hr hlk () (by rw [plOn, if_neg (by omega), Nat.mul_comm nc]) hP hD hS rfl dX5_placeOn_40
  · skip
    refine lv_aload_n hx hb dX5_placeOn_10 rfl (lv_at hl 0 rfl) ?_
    refine va_get (D := G.1) (ci := 4) (v := .ref (md 0)) (C := RX5) (T := TX5) (N := 21) hx hb hts in_X5 hown hK hP 0 rfl rfl 0 (by decide) (hts _ q1727) (fun _ h9 => h9) rfl dX5_placeOn_11 ?_
    refine lv_iconst (v := nI 1) hx hb dX5_placeOn_14 (by decide) ?_
    refine r_iald hx hb hK hP 1 3 rfl rfl (by omega) (by decide) dX5_placeOn_15 ?_
    refine eq_i (y := nI nc) rfl ?_
    refine lv_iload_n hx hb dX5_placeOn_16 rfl (lv_at hl 1 rfl) ?_
    refine n_imul hx hb dX5_placeOn_17 ?_
    refine lv_iload_n hx hb dX5_placeOn_18 rfl (lv_at hl 2 rfl) ?_
    refine n_iadd hx hb dX5_placeOn_19 ?_
    refine lv_goto (tgt := 40) hx hb dX5_placeOn_20 (by decide) ?_
    subst hQ
    exact ret_i hx hb hr hlk () (by rw [plOn, if_pos (by omega), Nat.mul_comm]) hP hD hS rfl dX5_placeOn_40
set_option maxHeartbeats 4000000 in
set_option maxRecDepth 100000 in
theorem m_X5_isVowelOn (l : Launch) (G : GG) (mh : Nat) (md : Nat → Nat) (nr : Nat) (nc : Nat) (pL : Nat → Nat) (pG : Nat → Nat) (pB : Nat → Bool) (pk : Nat → Int32) (bf : Nat → Int32) (hi : Nat → Int32) (sv : Nat → Int32) (ch : Nat) (hs : Bool) (inp : Nat → Nat) (ty : Nat) (er : Int32) (wy : Int32) (wd : Int32) (rf : Bool) (lt : Nat → Nat) (ln : Nat) (th : Int32) (tr : Nat → Nat) (mv : Nat → Nat) (fo : Int32) (sp : Nat) (wr : Bool) (td : Nat → Int32) (ll : Nat) (kk : Nat) (hd : 2 ≤ nr ∧ nr ≤ 3 ∧ 2 ≤ nc ∧ nc ≤ 3) (hll : ll < nr + nc) (hLR : ∀ q, q < nr * nc → 97 ≤ pL q ∧ pL q ≤ 108) (hkk : kk < 1000) : MM l G yX5_isVowelOn cX5_isVowelOn 3 (some .boolean) ⟨1, 0, 0, 22⟩ [.ref mh, .int (nI ll), .int (nI kk)] (MW G mh md nr nc pL pG pB pk bf hi sv ch hs inp ty er wy wd rf lt ln th tr mv fo sp wr td) (Qi_ G (fun (r : Int32) (_ : Unit) => r = bI (vw (pL (plOn nr nc ll (kk % szOf nr nc ll))))) (fun (_ : Unit) => (MW G mh md nr nc pL pG pB pk bf hi sv ch hs inp ty er wy wd rf lt ln th tr mv fo sp wr td))) := by
  refine MM.of (by decide) (Nat.le_of_ble_eq_true rfl) ?_
  intro p e s m args below meth cd A C hini hA hK hZ hP hD ls hl
  generalize hQ : MQ below ((Qi_ G (fun (r : Int32) (_ : Unit) => r = bI (vw (pL (plOn nr nc ll (kk % szOf nr nc ll))))) (fun (_ : Unit) => (MW G mh md nr nc pL pG pB pk bf hi sv ch hs inp ty er wy wd rf lt ln th tr mv fo sp wr td))) A) args s (⟨1, 0, 0, 22⟩ : Room).cells (⟨1, 0, 0, 22⟩ : Room).slots A = Q
  obtain ⟨hx, hb, hr, hts, hown, hlk, hml⟩ := C
  have hown : s.vm.findClass RX5 = some m.cls := hown
  have hS : va_S A s.heap s.heap [] := va_S.rf
  have hl : lv_has ls 3 [(0, .ref mh), (1, .int (nI ll)), (2, .int (nI kk))] := hl
  have hmu := dm_mul hd
  have hz := szOf_lt (line := ll) hd
  have hpl := plOn_lt hd hll (Nat.mod_lt kk (show szOf nr nc ll > 0 by omega))
  have hlr := hLR _ hpl.1
  refine lv_aload_n hx hb dX5_isVowelOn_0 rfl (lv_at hl 0 rfl) ?_
  refine va_get (D := G.1) (ci := 4) (v := .ref (md 0)) (C := RX5) (T := TX5) (N := 21) hx hb hts in_X5 hown hK hP 0 rfl rfl 0 (by decide) (hts _ q1727) (fun _ h9 => h9) rfl dX5_isVowelOn_1 ?_
  refine lv_bipush (v := nI 14) hx hb dX5_isVowelOn_4 (by decide) ?_
  refine lv_aload_n hx hb dX5_isVowelOn_6 rfl (lv_at hl 0 rfl) ?_
  refine lv_iload_n hx hb dX5_isVowelOn_7 rfl (lv_at hl 1 rfl) ?_
  refine lv_iload_n hx hb dX5_isVowelOn_8 rfl (lv_at hl 2 rfl) ?_
  refine lv_aload_n hx hb dX5_isVowelOn_9 rfl (lv_at hl 0 rfl) ?_
  refine lv_iload_n hx hb dX5_isVowelOn_10 rfl (lv_at hl 1 rfl) ?_
  refine callVi (As := [.int (nI ll)]) (rest := [.int (nI kk), .int (nI ll), .ref mh, .int (nI 14), .ref (md 0)]) (wc := (MW G mh md nr nc pL pG pB pk bf hi sv ch hs inp ty er wy wd rf lt ln th tr mv fo sp wr td)) (wr := ([] : va_W)) ⟨hx, hb, hml, hown, hts⟩ (m_X5_lengthOf l G mh md nr nc pL pG pB pk bf hi sv ch hs inp ty er wy wd rf lt ln th tr mv fo sp wr td ll (by first | assumption | omega) (by first | assumption | omega)) (cwV 1 hts (lw_V q2058 q2060 qs75 q105 q2061) rfl rfl rfl (by decide +kernel) ⟨Nat.le_of_ble_eq_true rfl, Nat.le_of_ble_eq_true rfl⟩) hK hZ hA hP hD hS [0, 1, 2, 3, 4, 5, 6, 7, 8, 9] [] rfl rfl (by decide) (by decide) (by decide) 0 4 rfl rfl rfl hl.1 (Nat.le_of_ble_eq_true rfl) ⟨Nat.le_of_ble_eq_true rfl, Nat.le_of_ble_eq_true rfl⟩ rfl dX5_isVowelOn_11 (fun r9 u9 H locs hw9 hP hD hS => ?_)
  subst hw9
  have hP : va_P G.1 CL (MW G mh md nr nc pL pG pB pk bf hi sv ch hs inp ty er wy wd rf lt ln th tr mv fo sp wr td) _ := hP
  have hD : va_D A (MW G mh md nr nc pL pG pB pk bf hi sv ch hs inp ty er wy wd rf lt ln th tr mv fo sp wr td) := hD
  refine n_irem hx hb (by omega) (by omega) (by omega) dX5_isVowelOn_14 ?_
  refine callVi (As := [.int (nI ll), .int (nI (kk % (szOf nr nc ll)))]) (rest := [.int (nI 14), .ref (md 0)]) (wc := (MW G mh md nr nc pL pG pB pk bf hi sv ch hs inp ty er wy wd rf lt ln th tr mv fo sp wr td)) (wr := ([] : va_W)) ⟨hx, hb, hml, hown, hts⟩ (m_X5_placeOn l G mh md nr nc pL pG pB pk bf hi sv ch hs inp ty er wy wd rf lt ln th tr mv fo sp wr td ll (kk % (szOf nr nc ll)) (by first | assumption | omega) (by first | assumption | omega)) (cwV 2 hts (lw_V q2066 q2068 qs77 q105 q2069) rfl rfl rfl (by decide +kernel) ⟨Nat.le_of_ble_eq_true rfl, Nat.le_of_ble_eq_true rfl⟩) hK hZ hA hP hD hS [0, 1, 2, 3, 4, 5, 6, 7, 8, 9] [] rfl rfl (by decide) (by decide) (by decide) 0 4 rfl rfl rfl hl.1 (Nat.le_of_ble_eq_true rfl) ⟨Nat.le_of_ble_eq_true rfl, Nat.le_of_ble_eq_true rfl⟩ rfl dX5_isVowelOn_15 (fun r9 u9 H locs hw9 hP hD hS => ?_)
  subst hw9
  have hP : va_P G.1 CL (MW G mh md nr nc pL pG pB pk bf hi sv ch hs inp ty er wy wd rf lt ln th tr mv fo sp wr td) _ := hP
  have hD : va_D A (MW G mh md nr nc pL pG pB pk bf hi sv ch hs inp ty er wy wd rf lt ln th tr mv fo sp wr td) := hD
  refine n_iadd hx hb dX5_isVowelOn_18 ?_
  refine r_iald hx hb hK hP 1 3 rfl rfl (by omega) (by decide) dX5_isVowelOn_19 ?_
  refine eq_i (y := nI (pL (plOn nr nc ll (kk % (szOf nr nc ll))) - 97)) (gZ_c (by omega)) ?_
  refine callSi (As := [.int (nI (pL (plOn nr nc ll (kk % (szOf nr nc ll))) - 97))]) (rest := []) (wc := ([] : va_W)) (wr := (MW G mh md nr nc pL pG pB pk bf hi sv ch hs inp ty er wy wd rf lt ln th tr mv fo sp wr td)) ⟨hx, hb, hml, hown, hts⟩ (m_X5_isVowel l G (pL (plOn nr nc ll (kk % (szOf nr nc ll))) - 97) (by first | assumption | omega)) (va_cwS 1 hts (lw_S q2070 q2071 q105 q2072) rfl rfl rfl (by decide +kernel) ⟨Nat.le_of_ble_eq_true rfl, Nat.le_of_ble_eq_true rfl⟩) hK hZ hA hP hD hS [] [0, 1, 2, 3, 4, 5, 6, 7, 8, 9] rfl rfl (by decide) (by decide) (by decide) rfl hl.1 (Nat.le_of_ble_eq_true rfl) ⟨Nat.le_of_ble_eq_true rfl, Nat.le_of_ble_eq_true rfl⟩ rfl dX5_isVowelOn_20 (fun r9 u9 H locs hw9 hP hD hS => ?_)
  subst hw9
  have hP : va_P G.1 CL (MW G mh md nr nc pL pG pB pk bf hi sv ch hs inp ty er wy wd rf lt ln th tr mv fo sp wr td) _ := hP
  have hD : va_D A (MW G mh md nr nc pL pG pB pk bf hi sv ch hs inp ty er wy wd rf lt ln th tr mv fo sp wr td) := hD
  subst hQ
  exact ret_i hx hb hr hlk () (congrArg bI (by rw [show 97 + (pL (plOn nr nc ll (kk % szOf nr nc ll)) - 97) = pL (plOn nr nc ll (kk % szOf nr nc ll)) by omega])) hP hD hS (bI_nar _) dX5_isVowelOn_23
set_option maxHeartbeats 4000000 in
set_option maxRecDepth 100000 in
theorem m_X5_vowels (l : Launch) (G : GG) (mh : Nat) (md : Nat → Nat) (nr : Nat) (nc : Nat) (pL : Nat → Nat) (pG : Nat → Nat) (pB : Nat → Bool) (pk : Nat → Int32) (bf : Nat → Int32) (hi : Nat → Int32) (sv : Nat → Int32) (ch : Nat) (hs : Bool) (inp : Nat → Nat) (ty : Nat) (er : Int32) (wy : Int32) (wd : Int32) (rf : Bool) (lt : Nat → Nat) (ln : Nat) (th : Int32) (tr : Nat → Nat) (mv : Nat → Nat) (fo : Int32) (sp : Nat) (wr : Bool) (td : Nat → Int32) (ll : Nat) (hd : 2 ≤ nr ∧ nr ≤ 3 ∧ 2 ≤ nc ∧ nc ≤ 3) (hll : ll < nr + nc) (hLR : ∀ q, q < nr * nc → 97 ≤ pL q ∧ pL q ≤ 108) : MM l G yX5_vowels cX5_vowels 4 (some .int) ⟨2, 0, 0, 44⟩ [.ref mh, .int (nI ll)] (MW G mh md nr nc pL pG pB pk bf hi sv ch hs inp ty er wy wd rf lt ln th tr mv fo sp wr td) (Qi_ G (fun (r : Int32) (_ : Unit) => r = nI (vwsN nr nc pL ll)) (fun (_ : Unit) => (MW G mh md nr nc pL pG pB pk bf hi sv ch hs inp ty er wy wd rf lt ln th tr mv fo sp wr td))) := by
  refine MM.of (by decide) (Nat.le_of_ble_eq_true rfl) ?_
  intro p e s m args below meth cd A C hini hA hK hZ hP hD ls hl
  generalize hQ : MQ below ((Qi_ G (fun (r : Int32) (_ : Unit) => r = nI (vwsN nr nc pL ll)) (fun (_ : Unit) => (MW G mh md nr nc pL pG pB pk bf hi sv ch hs inp ty er wy wd rf lt ln th tr mv fo sp wr td))) A) args s (⟨2, 0, 0, 44⟩ : Room).cells (⟨2, 0, 0, 44⟩ : Room).slots A = Q
  obtain ⟨hx, hb, hr, hts, hown, hlk, hml⟩ := C
  have hown : s.vm.findClass RX5 = some m.cls := hown
  have hS : va_S A s.heap s.heap [] := va_S.rf
  have hl : lv_has ls 4 [(0, .ref mh), (1, .int (nI ll))] := hl
  have hmu := dm_mul hd
  have hz := szOf_lt (line := ll) hd
  refine lv_iconst (v := nI 0) hx hb dX5_vowels_0 (by decide) ?_
  refine lv_istore_n (lv' := [(2, .int (nI 0)), (0, .ref mh), (1, .int (nI ll))]) hx hb dX5_vowels_1 rfl hl (by decide) rfl (fun ls hl => ?_)
  refine lv_iconst (v := nI 0) hx hb dX5_vowels_2 (by decide) ?_
  refine lv_istore_n (lv' := [(3, .int (nI 0)), (2, .int (nI 0)), (0, .ref mh), (1, .int (nI ll))]) hx hb dX5_vowels_3 rfl hl (by decide) rfl (fun ls hl => ?_)
  have lp4 : ∀ (f : Nat) (i : Nat) (n : Nat), szOf nr nc ll - i < f → (i ≤ szOf nr nc ll) → (n = cn (fun k => vw (pL (plOn nr nc ll k))) i) → ∀ (H : Heap) (locs : List Loc) (ls : Array Slot), va_P G.1 CL (MW G mh md nr nc pL pG pB pk bf hi sv ch hs inp ty er wy wd rf lt ln th tr mv fo sp wr td) H → va_D A (MW G mh md nr nc pL pG pB pk bf hi sv ch hs inp ty er wy wd rf lt ln th tr mv fo sp wr td) → va_S A s.heap H locs → lv_has ls 4 [(3, .int (nI i)), (2, .int (nI n)), (0, .ref mh), (1, .int (nI ll))] → W p l e (⟨2, 0, 0, 44⟩ : Room) s m args below meth cd H locs 0 0 Q (F0 m 4 ls []) := by
    intro f
    induction f with
    | zero => intro i n hf; exact absurd hf (Nat.not_lt_zero _)
    | succ f ih4 =>
      intro i n hf hi9 hn H locs ls hP hD hS hl
      refine lv_iload_n hx hb dX5_vowels_4 rfl (lv_at hl 0 rfl) ?_
      refine lv_aload_n hx hb dX5_vowels_5 rfl (lv_at hl 2 rfl) ?_
      refine lv_iload_n hx hb dX5_vowels_6 rfl (lv_at hl 3 rfl) ?_
      refine callVi (As := [.int (nI ll)]) (rest := [.int (nI i)]) (wc := (MW G mh md nr nc pL pG pB pk bf hi sv ch hs inp ty er wy wd rf lt ln th tr mv fo sp wr td)) (wr := ([] : va_W)) ⟨hx, hb, hml, hown, hts⟩ (m_X5_lengthOf l G mh md nr nc pL pG pB pk bf hi sv ch hs inp ty er wy wd rf lt ln th tr mv fo sp wr td ll (by first | assumption | omega) (by first | assumption | omega)) (cwV 1 hts (lw_V q2058 q2060 qs75 q105 q2061) rfl rfl rfl (by decide +kernel) ⟨Nat.le_of_ble_eq_true rfl, Nat.le_of_ble_eq_true rfl⟩) hK hZ hA hP hD hS [0, 1, 2, 3, 4, 5, 6, 7, 8, 9] [] rfl rfl (by decide) (by decide) (by decide) 0 4 rfl rfl rfl hl.1 (Nat.le_of_ble_eq_true rfl) ⟨Nat.le_of_ble_eq_true rfl, Nat.le_of_ble_eq_true rfl⟩ rfl dX5_vowels_7 (fun r9 u9 H locs hw9 hP hD hS => ?_)
      subst hw9
      have hP : va_P G.1 CL (MW G mh md nr nc pL pG pB pk bf hi sv ch hs inp ty er wy wd rf lt ln th tr mv fo sp wr td) _ := hP
      have hD : va_D A (MW G mh md nr nc pL pG pB pk bf hi sv ch hs inp ty er wy wd rf lt ln th tr mv fo sp wr td) := hD
      refine n_cmp_ge (tgt := 36) hx hb dX5_vowels_10 (by decide) (by omega) (by omega) (fun c10 => ?_) (fun c10 => ?_)
      · skip
        refine lv_iload_n hx hb dX5_vowels_36 rfl (lv_at hl 1 rfl) ?_
        subst hQ
        exact ret_i hx hb hr hlk () (by rw [hn, vwsN, show i = szOf nr nc ll by omega]) hP hD hS rfl dX5_vowels_37
      · skip
        refine lv_iload_n hx hb dX5_vowels_13 rfl (lv_at hl 1 rfl) ?_
        refine lv_aload_n hx hb dX5_vowels_14 rfl (lv_at hl 2 rfl) ?_
        refine lv_iload_n hx hb dX5_vowels_15 rfl (lv_at hl 3 rfl) ?_
        refine lv_iload_n hx hb dX5_vowels_16 rfl (lv_at hl 0 rfl) ?_
        refine callVi (As := [.int (nI ll), .int (nI i)]) (rest := [.int (nI n)]) (wc := (MW G mh md nr nc pL pG pB pk bf hi sv ch hs inp ty er wy wd rf lt ln th tr mv fo sp wr td)) (wr := ([] : va_W)) ⟨hx, hb, hml, hown, hts⟩ (m_X5_isVowelOn l G mh md nr nc pL pG pB pk bf hi sv ch hs inp ty er wy wd rf lt ln th tr mv fo sp wr td ll i (by first | assumption | omega) (by first | assumption | omega) (by first | assumption | omega) (by first | assumption | omega)) (cwV 2 hts (lw_V q2062 q2064 qs76 q105 q2065) rfl rfl rfl (by decide +kernel) ⟨Nat.le_of_ble_eq_true rfl, Nat.le_of_ble_eq_true rfl⟩) hK hZ hA hP hD hS [0, 1, 2, 3, 4, 5, 6, 7, 8, 9] [] rfl rfl (by decide) (by decide) (by decide) 0 4 rfl rfl rfl hl.1 (Nat.le_of_ble_eq_true rfl) ⟨Nat.le_of_ble_eq_true rfl, Nat.le_of_ble_eq_true rfl⟩ rfl dX5_vowels_17 (fun r9 u9 H locs hw9 hP hD hS => ?_)
        subst hw9
        have hP : va_P G.1 CL (MW G mh md nr nc pL pG pB pk bf hi sv ch hs inp ty er wy wd rf lt ln th tr mv fo sp wr td) _ := hP
        have hD : va_D A (MW G mh md nr nc pL pG pB pk bf hi sv ch hs inp ty er wy wd rf lt ln th tr mv fo sp wr td) := hD
        refine b_if_eq (tgt := 27) hx hb dX5_vowels_20 (by decide) (fun c20 => ?_) (fun c20 => ?_)
        · skip
          refine lv_iconst (v := nI 0) hx hb dX5_vowels_27 (by decide) ?_
          refine n_iadd hx hb dX5_vowels_28 ?_
          refine lv_istore_n (lv' := [(2, .int (nI (n + 0))), (3, .int (nI i)), (0, .ref mh), (1, .int (nI ll))]) hx hb dX5_vowels_29 rfl hl (by decide) rfl (fun ls hl => ?_)
          refine lv_iinc (v := nI (i + 1)) (lv' := [(3, .int (nI (i + 1))), (2, .int (nI (n + 0))), (0, .ref mh), (1, .int (nI ll))]) hx hb dX5_vowels_30 hl (k := 1) rfl (nI_add _ _) (by decide) rfl (fun ls hl => ?_)
          refine lv_goto (tgt := 4) hx hb dX5_vowels_33 (by decide) ?_
          exact ih4 (i + 1) (n + 0) (by omega) (by omega) (by rw [Nat.mod_eq_of_lt (by omega)] at c20; rw [hn]; exact cn_f (P := (fun k => vw (pL (plOn nr nc ll k)))) c20) _ _ _ hP hD hS (lv_sub hl [0, 1, 2, 3] rfl)
        · skip
          refine lv_iconst (v := nI 1) hx hb dX5_vowels_23 (by decide) ?_
          refine lv_goto (tgt := 28) hx hb dX5_vowels_24 (by decide) ?_
          refine n_iadd hx hb dX5_vowels_28 ?_
          refine lv_istore_n (lv' := [(2, .int (nI (n + 1))), (3, .int (nI i)), (0, .ref mh), (1, .int (nI ll))]) hx hb dX5_vowels_29 rfl hl (by decide) rfl (fun ls hl => ?_)
          refine lv_iinc (v := nI (i + 1)) (lv' := [(3, .int (nI (i + 1))), (2, .int (nI (n + 1))), (0, .ref mh), (1, .int (nI ll))]) hx hb dX5_vowels_30 hl (k := 1) rfl (nI_add _ _) (by decide) rfl (fun ls hl => ?_)
          refine lv_goto (tgt := 4) hx hb dX5_vowels_33 (by decide) ?_
          exact ih4 (i + 1) (n + 1) (by omega) (by omega) (by rw [Nat.mod_eq_of_lt (by omega)] at c20; rw [hn]; exact cn_t (P := (fun k => vw (pL (plOn nr nc ll k)))) c20) _ _ _ hP hD hS (lv_sub hl [0, 1, 2, 3] rfl)
  exact lp4 _ 0 0 (Nat.lt_succ_self _) (by omega) rfl _ _ _ hP hD hS (lv_sub hl [0, 1, 2, 3] rfl)
set_option maxHeartbeats 4000000 in
set_option maxRecDepth 100000 in
theorem m_X5_isSinging (l : Launch) (G : GG) (mh : Nat) (md : Nat → Nat) (nr : Nat) (nc : Nat) (pL : Nat → Nat) (pG : Nat → Nat) (pB : Nat → Bool) (pk : Nat → Int32) (bf : Nat → Int32) (hi : Nat → Int32) (sv : Nat → Int32) (ch : Nat) (hs : Bool) (inp : Nat → Nat) (ty : Nat) (er : Int32) (wy : Int32) (wd : Int32) (rf : Bool) (lt : Nat → Nat) (ln : Nat) (th : Int32) (tr : Nat → Nat) (mv : Nat → Nat) (fo : Int32) (sp : Nat) (wr : Bool) (td : Nat → Int32) (ll : Nat) (hd : 2 ≤ nr ∧ nr ≤ 3 ∧ 2 ≤ nc ∧ nc ≤ 3) (hll : ll < nr + nc) (hLR : ∀ q, q < nr * nc → 97 ≤ pL q ∧ pL q ≤ 108) : MM l G yX5_isSinging cX5_isSinging 4 (some .boolean) ⟨3, 0, 0, 67⟩ [.ref mh, .int (nI ll)] (MW G mh md nr nc pL pG pB pk bf hi sv ch hs inp ty er wy wd rf lt ln th tr mv fo sp wr td) (Qi_ G (fun (r : Int32) (_ : Unit) => r = bI (snN nr nc pL ll)) (fun (_ : Unit) => (MW G mh md nr nc pL pG pB pk bf hi sv ch hs inp ty er wy wd rf lt ln th tr mv fo sp wr td))) := by
  refine MM.of (by decide) (Nat.le_of_ble_eq_true rfl) ?_
  intro p e s m args below meth cd A C hini hA hK hZ hP hD ls hl
  generalize hQ : MQ below ((Qi_ G (fun (r : Int32) (_ : Unit) => r = bI (snN nr nc pL ll)) (fun (_ : Unit) => (MW G mh md nr nc pL pG pB pk bf hi sv ch hs inp ty er wy wd rf lt ln th tr mv fo sp wr td))) A) args s (⟨3, 0, 0, 67⟩ : Room).cells (⟨3, 0, 0, 67⟩ : Room).slots A = Q
  obtain ⟨hx, hb, hr, hts, hown, hlk, hml⟩ := C
  have hown : s.vm.findClass RX5 = some m.cls := hown
  have hS : va_S A s.heap s.heap [] := va_S.rf
  have hl : lv_has ls 4 [(0, .ref mh), (1, .int (nI ll))] := hl
  have hmu := dm_mul hd
  have hz := szOf_lt (line := ll) hd
  have hv9 := vws_le nr nc pL ll
  refine lv_aload_n hx hb dX5_isSinging_0 rfl (lv_at hl 0 rfl) ?_
  refine lv_iload_n hx hb dX5_isSinging_1 rfl (lv_at hl 1 rfl) ?_
  refine callVi (As := [.int (nI ll)]) (rest := []) (wc := (MW G mh md nr nc pL pG pB pk bf hi sv ch hs inp ty er wy wd rf lt ln th tr mv fo sp wr td)) (wr := ([] : va_W)) ⟨hx, hb, hml, hown, hts⟩ (m_X5_vowels l G mh md nr nc pL pG pB pk bf hi sv ch hs inp ty er wy wd rf lt ln th tr mv fo sp wr td ll (by first | assumption | omega) (by first | assumption | omega) (by first | assumption | omega)) (cwV 1 hts (lw_V q2054 q2056 qs74 q105 q2057) rfl rfl rfl (by decide +kernel) ⟨Nat.le_of_ble_eq_true rfl, Nat.le_of_ble_eq_true rfl⟩) hK hZ hA hP hD hS [0, 1, 2, 3, 4, 5, 6, 7, 8, 9] [] rfl rfl (by decide) (by decide) (by decide) 0 4 rfl rfl rfl hl.1 (Nat.le_of_ble_eq_true rfl) ⟨Nat.le_of_ble_eq_true rfl, Nat.le_of_ble_eq_true rfl⟩ rfl dX5_isSinging_2 (fun r9 u9 H locs hw9 hP hD hS => ?_)
  subst hw9
  have hP : va_P G.1 CL (MW G mh md nr nc pL pG pB pk bf hi sv ch hs inp ty er wy wd rf lt ln th tr mv fo sp wr td) _ := hP
  have hD : va_D A (MW G mh md nr nc pL pG pB pk bf hi sv ch hs inp ty er wy wd rf lt ln th tr mv fo sp wr td) := hD
  refine n_if_le (tgt := 12) hx hb dX5_isSinging_5 (by decide) (by omega) (fun c5 => ?_) (fun c5 => ?_)
  · skip
    refine lv_iconst (v := nI 0) hx hb dX5_isSinging_12 (by decide) ?_
    refine lv_istore_n (lv' := [(2, .int (nI 0)), (0, .ref mh), (1, .int (nI ll))]) hx hb dX5_isSinging_13 rfl hl (by decide) rfl (fun ls hl => ?_)
    refine lv_iconst (v := nI 0) hx hb dX5_isSinging_14 (by decide) ?_
    refine lv_istore_n (lv' := [(3, .int (nI 0)), (2, .int (nI 0)), (0, .ref mh), (1, .int (nI ll))]) hx hb dX5_isSinging_15 rfl hl (by decide) rfl (fun ls hl => ?_)
    have lp16 : ∀ (f : Nat) (k : Nat) (bb : Bool), szOf nr nc ll - k < f → (k ≤ szOf nr nc ll) → (bb = (decide (0 < vwsN nr nc pL ll) && al (fun k => !vw (pL (plOn nr nc ll k)) || !vw (pL (plOn nr nc ll ((k + 1) % szOf nr nc ll)))) k)) → ∀ (H : Heap) (locs : List Loc) (ls : Array Slot), va_P G.1 CL (MW G mh md nr nc pL pG pB pk bf hi sv ch hs inp ty er wy wd rf lt ln th tr mv fo sp wr td) H → va_D A (MW G mh md nr nc pL pG pB pk bf hi sv ch hs inp ty er wy wd rf lt ln th tr mv fo sp wr td) → va_S A s.heap H locs → lv_has ls 4 [(3, .int (nI k)), (2, .int (bI bb)), (0, .ref mh), (1, .int (nI ll))] → W p l e (⟨3, 0, 0, 67⟩ : Room) s m args below meth cd H locs 0 0 Q (F0 m 16 ls []) := by
      intro f
      induction f with
      | zero => intro k bb hf; exact absurd hf (Nat.not_lt_zero _)
      | succ f ih16 =>
        intro k bb hf hk9 hb0 H locs ls hP hD hS hl
        refine lv_iload_n hx hb dX5_isSinging_16 rfl (lv_at hl 0 rfl) ?_
        refine lv_aload_n hx hb dX5_isSinging_17 rfl (lv_at hl 2 rfl) ?_
        refine lv_iload_n hx hb dX5_isSinging_18 rfl (lv_at hl 3 rfl) ?_
        refine callVi (As := [.int (nI ll)]) (rest := [.int (nI k)]) (wc := (MW G mh md nr nc pL pG pB pk bf hi sv ch hs inp ty er wy wd rf lt ln th tr mv fo sp wr td)) (wr := ([] : va_W)) ⟨hx, hb, hml, hown, hts⟩ (m_X5_lengthOf l G mh md nr nc pL pG pB pk bf hi sv ch hs inp ty er wy wd rf lt ln th tr mv fo sp wr td ll (by first | assumption | omega) (by first | assumption | omega)) (cwV 1 hts (lw_V q2058 q2060 qs75 q105 q2061) rfl rfl rfl (by decide +kernel) ⟨Nat.le_of_ble_eq_true rfl, Nat.le_of_ble_eq_true rfl⟩) hK hZ hA hP hD hS [0, 1, 2, 3, 4, 5, 6, 7, 8, 9] [] rfl rfl (by decide) (by decide) (by decide) 0 4 rfl rfl rfl hl.1 (Nat.le_of_ble_eq_true rfl) ⟨Nat.le_of_ble_eq_true rfl, Nat.le_of_ble_eq_true rfl⟩ rfl dX5_isSinging_19 (fun r9 u9 H locs hw9 hP hD hS => ?_)
        subst hw9
        have hP : va_P G.1 CL (MW G mh md nr nc pL pG pB pk bf hi sv ch hs inp ty er wy wd rf lt ln th tr mv fo sp wr td) _ := hP
        have hD : va_D A (MW G mh md nr nc pL pG pB pk bf hi sv ch hs inp ty er wy wd rf lt ln th tr mv fo sp wr td) := hD
        refine n_cmp_ge (tgt := 61) hx hb dX5_isSinging_22 (by decide) (by omega) (by omega) (fun c22 => ?_) (fun c22 => ?_)
        · skip
          refine lv_iload_n hx hb dX5_isSinging_61 rfl (lv_at hl 1 rfl) ?_
          subst hQ
          exact ret_i hx hb hr hlk () (congrArg bI (by rw [hb0, snN, show k = szOf nr nc ll by omega])) hP hD hS (bI_nar _) dX5_isSinging_62
        · skip
          refine lv_iload_n hx hb dX5_isSinging_25 rfl (lv_at hl 1 rfl) ?_
          refine b_if_eq (tgt := 53) hx hb dX5_isSinging_26 (by decide) (fun c26 => ?_) (fun c26 => ?_)
          · skip
            refine lv_iconst (v := nI 0) hx hb dX5_isSinging_53 (by decide) ?_
            refine lv_istore_n (lv' := [(2, .int (nI 0)), (3, .int (nI k)), (0, .ref mh), (1, .int (nI ll))]) hx hb dX5_isSinging_54 rfl hl (by decide) rfl (fun ls hl => ?_)
            refine lv_iinc (v := nI (k + 1)) (lv' := [(3, .int (nI (k + 1))), (2, .int (nI 0)), (0, .ref mh), (1, .int (nI ll))]) hx hb dX5_isSinging_55 hl (k := 1) rfl (nI_add _ _) (by decide) rfl (fun ls hl => ?_)
            refine lv_goto (tgt := 16) hx hb dX5_isSinging_58 (by decide) ?_
            exact ih16 (k + 1) false (by omega) (by omega) (by rw [al, ← Bool.and_assoc, ← hb0]; first | (rw [c26]; rfl) | (rw [Nat.mod_eq_of_lt (show k < szOf nr nc ll by omega)] at c35; simp only [c26, c35, c46]; rfl)) _ _ _ hP hD hS (lv_sub hl [0, 1, 2, 3] rfl)
          · skip
            refine lv_aload_n hx hb dX5_isSinging_29 rfl (lv_at hl 2 rfl) ?_
            refine lv_iload_n hx hb dX5_isSinging_30 rfl (lv_at hl 3 rfl) ?_
            refine lv_iload_n hx hb dX5_isSinging_31 rfl (lv_at hl 0 rfl) ?_
            refine callVi (As := [.int (nI ll), .int (nI k)]) (rest := []) (wc := (MW G mh md nr nc pL pG pB pk bf hi sv ch hs inp ty er wy wd rf lt ln th tr mv fo sp wr td)) (wr := ([] : va_W)) ⟨hx, hb, hml, hown, hts⟩ (m_X5_isVowelOn l G mh md nr nc pL pG pB pk bf hi sv ch hs inp ty er wy wd rf lt ln th tr mv fo sp wr td ll k (by first | assumption | omega) (by first | assumption | omega) (by first | assumption | omega) (by first | assumption | omega)) (cwV 2 hts (lw_V q2062 q2064 qs76 q105 q2065) rfl rfl rfl (by decide +kernel) ⟨Nat.le_of_ble_eq_true rfl, Nat.le_of_ble_eq_true rfl⟩) hK hZ hA hP hD hS [0, 1, 2, 3, 4, 5, 6, 7, 8, 9] [] rfl rfl (by decide) (by decide) (by decide) 0 4 rfl rfl rfl hl.1 (Nat.le_of_ble_eq_true rfl) ⟨Nat.le_of_ble_eq_true rfl, Nat.le_of_ble_eq_true rfl⟩ rfl dX5_isSinging_32 (fun r9 u9 H locs hw9 hP hD hS => ?_)
            subst hw9
            have hP : va_P G.1 CL (MW G mh md nr nc pL pG pB pk bf hi sv ch hs inp ty er wy wd rf lt ln th tr mv fo sp wr td) _ := hP
            have hD : va_D A (MW G mh md nr nc pL pG pB pk bf hi sv ch hs inp ty er wy wd rf lt ln th tr mv fo sp wr td) := hD
            refine b_if_eq (tgt := 49) hx hb dX5_isSinging_35 (by decide) (fun c35 => ?_) (fun c35 => ?_)
            · skip
              refine lv_iconst (v := nI 1) hx hb dX5_isSinging_49 (by decide) ?_
              refine lv_goto (tgt := 54) hx hb dX5_isSinging_50 (by decide) ?_
              refine lv_istore_n (lv' := [(2, .int (nI 1)), (3, .int (nI k)), (0, .ref mh), (1, .int (nI ll))]) hx hb dX5_isSinging_54 rfl hl (by decide) rfl (fun ls hl => ?_)
              refine lv_iinc (v := nI (k + 1)) (lv' := [(3, .int (nI (k + 1))), (2, .int (nI 1)), (0, .ref mh), (1, .int (nI ll))]) hx hb dX5_isSinging_55 hl (k := 1) rfl (nI_add _ _) (by decide) rfl (fun ls hl => ?_)
              refine lv_goto (tgt := 16) hx hb dX5_isSinging_58 (by decide) ?_
              exact ih16 (k + 1) true (by omega) (by omega) (by rw [al, ← Bool.and_assoc, ← hb0, c26]; first | (rw [Nat.mod_eq_of_lt (show k < szOf nr nc ll by omega)] at c35; simp only [c35]; rfl) | (simp only [c46, Bool.not_false, Bool.or_true]; rfl)) _ _ _ hP hD hS (lv_sub hl [0, 1, 2, 3] rfl)
            · skip
              refine lv_aload_n hx hb dX5_isSinging_38 rfl (lv_at hl 2 rfl) ?_
              refine lv_iload_n hx hb dX5_isSinging_39 rfl (lv_at hl 3 rfl) ?_
              refine lv_iload_n hx hb dX5_isSinging_40 rfl (lv_at hl 0 rfl) ?_
              refine lv_iconst (v := nI 1) hx hb dX5_isSinging_41 (by decide) ?_
              refine n_iadd hx hb dX5_isSinging_42 ?_
              refine callVi (As := [.int (nI ll), .int (nI (k + 1))]) (rest := []) (wc := (MW G mh md nr nc pL pG pB pk bf hi sv ch hs inp ty er wy wd rf lt ln th tr mv fo sp wr td)) (wr := ([] : va_W)) ⟨hx, hb, hml, hown, hts⟩ (m_X5_isVowelOn l G mh md nr nc pL pG pB pk bf hi sv ch hs inp ty er wy wd rf lt ln th tr mv fo sp wr td ll (k + 1) (by first | assumption | omega) (by first | assumption | omega) (by first | assumption | omega) (by first | assumption | omega)) (cwV 2 hts (lw_V q2062 q2064 qs76 q105 q2065) rfl rfl rfl (by decide +kernel) ⟨Nat.le_of_ble_eq_true rfl, Nat.le_of_ble_eq_true rfl⟩) hK hZ hA hP hD hS [0, 1, 2, 3, 4, 5, 6, 7, 8, 9] [] rfl rfl (by decide) (by decide) (by decide) 0 4 rfl rfl rfl hl.1 (Nat.le_of_ble_eq_true rfl) ⟨Nat.le_of_ble_eq_true rfl, Nat.le_of_ble_eq_true rfl⟩ rfl dX5_isSinging_43 (fun r9 u9 H locs hw9 hP hD hS => ?_)
              subst hw9
              have hP : va_P G.1 CL (MW G mh md nr nc pL pG pB pk bf hi sv ch hs inp ty er wy wd rf lt ln th tr mv fo sp wr td) _ := hP
              have hD : va_D A (MW G mh md nr nc pL pG pB pk bf hi sv ch hs inp ty er wy wd rf lt ln th tr mv fo sp wr td) := hD
              refine b_if_ne (tgt := 53) hx hb dX5_isSinging_46 (by decide) (fun c46 => ?_) (fun c46 => ?_)
              · skip
                refine lv_iconst (v := nI 0) hx hb dX5_isSinging_53 (by decide) ?_
                refine lv_istore_n (lv' := [(2, .int (nI 0)), (3, .int (nI k)), (0, .ref mh), (1, .int (nI ll))]) hx hb dX5_isSinging_54 rfl hl (by decide) rfl (fun ls hl => ?_)
                refine lv_iinc (v := nI (k + 1)) (lv' := [(3, .int (nI (k + 1))), (2, .int (nI 0)), (0, .ref mh), (1, .int (nI ll))]) hx hb dX5_isSinging_55 hl (k := 1) rfl (nI_add _ _) (by decide) rfl (fun ls hl => ?_)
                refine lv_goto (tgt := 16) hx hb dX5_isSinging_58 (by decide) ?_
                exact ih16 (k + 1) false (by omega) (by omega) (by rw [al, ← Bool.and_assoc, ← hb0]; first | (rw [c26]; rfl) | (rw [Nat.mod_eq_of_lt (show k < szOf nr nc ll by omega)] at c35; simp only [c26, c35, c46]; rfl)) _ _ _ hP hD hS (lv_sub hl [0, 1, 2, 3] rfl)
              · skip
                refine lv_iconst (v := nI 1) hx hb dX5_isSinging_49 (by decide) ?_
                refine lv_goto (tgt := 54) hx hb dX5_isSinging_50 (by decide) ?_
                refine lv_istore_n (lv' := [(2, .int (nI 1)), (3, .int (nI k)), (0, .ref mh), (1, .int (nI ll))]) hx hb dX5_isSinging_54 rfl hl (by decide) rfl (fun ls hl => ?_)
                refine lv_iinc (v := nI (k + 1)) (lv' := [(3, .int (nI (k + 1))), (2, .int (nI 1)), (0, .ref mh), (1, .int (nI ll))]) hx hb dX5_isSinging_55 hl (k := 1) rfl (nI_add _ _) (by decide) rfl (fun ls hl => ?_)
                refine lv_goto (tgt := 16) hx hb dX5_isSinging_58 (by decide) ?_
                exact ih16 (k + 1) true (by omega) (by omega) (by rw [al, ← Bool.and_assoc, ← hb0, c26]; first | (rw [Nat.mod_eq_of_lt (show k < szOf nr nc ll by omega)] at c35; simp only [c35]; rfl) | (simp only [c46, Bool.not_false, Bool.or_true]; rfl)) _ _ _ hP hD hS (lv_sub hl [0, 1, 2, 3] rfl)
    exact lp16 _ 0 false (Nat.lt_succ_self _) (by omega) (by first | (rw [decide_eq_true c5]; rfl) | (rw [decide_eq_false (by omega)]; rfl)) _ _ _ hP hD hS (lv_sub hl [0, 1, 2, 3] rfl)
  · skip
    refine lv_iconst (v := nI 1) hx hb dX5_isSinging_8 (by decide) ?_
    refine lv_goto (tgt := 13) hx hb dX5_isSinging_9 (by decide) ?_
    refine lv_istore_n (lv' := [(2, .int (nI 1)), (0, .ref mh), (1, .int (nI ll))]) hx hb dX5_isSinging_13 rfl hl (by decide) rfl (fun ls hl => ?_)
    refine lv_iconst (v := nI 0) hx hb dX5_isSinging_14 (by decide) ?_
    refine lv_istore_n (lv' := [(3, .int (nI 0)), (2, .int (nI 1)), (0, .ref mh), (1, .int (nI ll))]) hx hb dX5_isSinging_15 rfl hl (by decide) rfl (fun ls hl => ?_)
    have lp16 : ∀ (f : Nat) (k : Nat) (bb : Bool), szOf nr nc ll - k < f → (k ≤ szOf nr nc ll) → (bb = (decide (0 < vwsN nr nc pL ll) && al (fun k => !vw (pL (plOn nr nc ll k)) || !vw (pL (plOn nr nc ll ((k + 1) % szOf nr nc ll)))) k)) → ∀ (H : Heap) (locs : List Loc) (ls : Array Slot), va_P G.1 CL (MW G mh md nr nc pL pG pB pk bf hi sv ch hs inp ty er wy wd rf lt ln th tr mv fo sp wr td) H → va_D A (MW G mh md nr nc pL pG pB pk bf hi sv ch hs inp ty er wy wd rf lt ln th tr mv fo sp wr td) → va_S A s.heap H locs → lv_has ls 4 [(3, .int (nI k)), (2, .int (bI bb)), (0, .ref mh), (1, .int (nI ll))] → W p l e (⟨3, 0, 0, 67⟩ : Room) s m args below meth cd H locs 0 0 Q (F0 m 16 ls []) := by
      intro f
      induction f with
      | zero => intro k bb hf; exact absurd hf (Nat.not_lt_zero _)
      | succ f ih16 =>
        intro k bb hf hk9 hb0 H locs ls hP hD hS hl
        refine lv_iload_n hx hb dX5_isSinging_16 rfl (lv_at hl 0 rfl) ?_
        refine lv_aload_n hx hb dX5_isSinging_17 rfl (lv_at hl 2 rfl) ?_
        refine lv_iload_n hx hb dX5_isSinging_18 rfl (lv_at hl 3 rfl) ?_
        refine callVi (As := [.int (nI ll)]) (rest := [.int (nI k)]) (wc := (MW G mh md nr nc pL pG pB pk bf hi sv ch hs inp ty er wy wd rf lt ln th tr mv fo sp wr td)) (wr := ([] : va_W)) ⟨hx, hb, hml, hown, hts⟩ (m_X5_lengthOf l G mh md nr nc pL pG pB pk bf hi sv ch hs inp ty er wy wd rf lt ln th tr mv fo sp wr td ll (by first | assumption | omega) (by first | assumption | omega)) (cwV 1 hts (lw_V q2058 q2060 qs75 q105 q2061) rfl rfl rfl (by decide +kernel) ⟨Nat.le_of_ble_eq_true rfl, Nat.le_of_ble_eq_true rfl⟩) hK hZ hA hP hD hS [0, 1, 2, 3, 4, 5, 6, 7, 8, 9] [] rfl rfl (by decide) (by decide) (by decide) 0 4 rfl rfl rfl hl.1 (Nat.le_of_ble_eq_true rfl) ⟨Nat.le_of_ble_eq_true rfl, Nat.le_of_ble_eq_true rfl⟩ rfl dX5_isSinging_19 (fun r9 u9 H locs hw9 hP hD hS => ?_)
        subst hw9
        have hP : va_P G.1 CL (MW G mh md nr nc pL pG pB pk bf hi sv ch hs inp ty er wy wd rf lt ln th tr mv fo sp wr td) _ := hP
        have hD : va_D A (MW G mh md nr nc pL pG pB pk bf hi sv ch hs inp ty er wy wd rf lt ln th tr mv fo sp wr td) := hD
        refine n_cmp_ge (tgt := 61) hx hb dX5_isSinging_22 (by decide) (by omega) (by omega) (fun c22 => ?_) (fun c22 => ?_)
        · skip
          refine lv_iload_n hx hb dX5_isSinging_61 rfl (lv_at hl 1 rfl) ?_
          subst hQ
          exact ret_i hx hb hr hlk () (congrArg bI (by rw [hb0, snN, show k = szOf nr nc ll by omega])) hP hD hS (bI_nar _) dX5_isSinging_62
        · skip
          refine lv_iload_n hx hb dX5_isSinging_25 rfl (lv_at hl 1 rfl) ?_
          refine b_if_eq (tgt := 53) hx hb dX5_isSinging_26 (by decide) (fun c26 => ?_) (fun c26 => ?_)
          · skip
            refine lv_iconst (v := nI 0) hx hb dX5_isSinging_53 (by decide) ?_
            refine lv_istore_n (lv' := [(2, .int (nI 0)), (3, .int (nI k)), (0, .ref mh), (1, .int (nI ll))]) hx hb dX5_isSinging_54 rfl hl (by decide) rfl (fun ls hl => ?_)
            refine lv_iinc (v := nI (k + 1)) (lv' := [(3, .int (nI (k + 1))), (2, .int (nI 0)), (0, .ref mh), (1, .int (nI ll))]) hx hb dX5_isSinging_55 hl (k := 1) rfl (nI_add _ _) (by decide) rfl (fun ls hl => ?_)
            refine lv_goto (tgt := 16) hx hb dX5_isSinging_58 (by decide) ?_
            exact ih16 (k + 1) false (by omega) (by omega) (by rw [al, ← Bool.and_assoc, ← hb0]; first | (rw [c26]; rfl) | (rw [Nat.mod_eq_of_lt (show k < szOf nr nc ll by omega)] at c35; simp only [c26, c35, c46]; rfl)) _ _ _ hP hD hS (lv_sub hl [0, 1, 2, 3] rfl)
          · skip
            refine lv_aload_n hx hb dX5_isSinging_29 rfl (lv_at hl 2 rfl) ?_
            refine lv_iload_n hx hb dX5_isSinging_30 rfl (lv_at hl 3 rfl) ?_
            refine lv_iload_n hx hb dX5_isSinging_31 rfl (lv_at hl 0 rfl) ?_
            refine callVi (As := [.int (nI ll), .int (nI k)]) (rest := []) (wc := (MW G mh md nr nc pL pG pB pk bf hi sv ch hs inp ty er wy wd rf lt ln th tr mv fo sp wr td)) (wr := ([] : va_W)) ⟨hx, hb, hml, hown, hts⟩ (m_X5_isVowelOn l G mh md nr nc pL pG pB pk bf hi sv ch hs inp ty er wy wd rf lt ln th tr mv fo sp wr td ll k (by first | assumption | omega) (by first | assumption | omega) (by first | assumption | omega) (by first | assumption | omega)) (cwV 2 hts (lw_V q2062 q2064 qs76 q105 q2065) rfl rfl rfl (by decide +kernel) ⟨Nat.le_of_ble_eq_true rfl, Nat.le_of_ble_eq_true rfl⟩) hK hZ hA hP hD hS [0, 1, 2, 3, 4, 5, 6, 7, 8, 9] [] rfl rfl (by decide) (by decide) (by decide) 0 4 rfl rfl rfl hl.1 (Nat.le_of_ble_eq_true rfl) ⟨Nat.le_of_ble_eq_true rfl, Nat.le_of_ble_eq_true rfl⟩ rfl dX5_isSinging_32 (fun r9 u9 H locs hw9 hP hD hS => ?_)
            subst hw9
            have hP : va_P G.1 CL (MW G mh md nr nc pL pG pB pk bf hi sv ch hs inp ty er wy wd rf lt ln th tr mv fo sp wr td) _ := hP
            have hD : va_D A (MW G mh md nr nc pL pG pB pk bf hi sv ch hs inp ty er wy wd rf lt ln th tr mv fo sp wr td) := hD
            refine b_if_eq (tgt := 49) hx hb dX5_isSinging_35 (by decide) (fun c35 => ?_) (fun c35 => ?_)
            · skip
              refine lv_iconst (v := nI 1) hx hb dX5_isSinging_49 (by decide) ?_
              refine lv_goto (tgt := 54) hx hb dX5_isSinging_50 (by decide) ?_
              refine lv_istore_n (lv' := [(2, .int (nI 1)), (3, .int (nI k)), (0, .ref mh), (1, .int (nI ll))]) hx hb dX5_isSinging_54 rfl hl (by decide) rfl (fun ls hl => ?_)
              refine lv_iinc (v := nI (k + 1)) (lv' := [(3, .int (nI (k + 1))), (2, .int (nI 1)), (0, .ref mh), (1, .int (nI ll))]) hx hb dX5_isSinging_55 hl (k := 1) rfl (nI_add _ _) (by decide) rfl (fun ls hl => ?_)
              refine lv_goto (tgt := 16) hx hb dX5_isSinging_58 (by decide) ?_
              exact ih16 (k + 1) true (by omega) (by omega) (by rw [al, ← Bool.and_assoc, ← hb0, c26]; first | (rw [Nat.mod_eq_of_lt (show k < szOf nr nc ll by omega)] at c35; simp only [c35]; rfl) | (simp only [c46, Bool.not_false, Bool.or_true]; rfl)) _ _ _ hP hD hS (lv_sub hl [0, 1, 2, 3] rfl)
            · skip
              refine lv_aload_n hx hb dX5_isSinging_38 rfl (lv_at hl 2 rfl) ?_
              refine lv_iload_n hx hb dX5_isSinging_39 rfl (lv_at hl 3 rfl) ?_
              refine lv_iload_n hx hb dX5_isSinging_40 rfl (lv_at hl 0 rfl) ?_
              refine lv_iconst (v := nI 1) hx hb dX5_isSinging_41 (by decide) ?_
              refine n_iadd hx hb dX5_isSinging_42 ?_
              refine callVi (As := [.int (nI ll), .int (nI (k + 1))]) (rest := []) (wc := (MW G mh md nr nc pL pG pB pk bf hi sv ch hs inp ty er wy wd rf lt ln th tr mv fo sp wr td)) (wr := ([] : va_W)) ⟨hx, hb, hml, hown, hts⟩ (m_X5_isVowelOn l G mh md nr nc pL pG pB pk bf hi sv ch hs inp ty er wy wd rf lt ln th tr mv fo sp wr td ll (k + 1) (by first | assumption | omega) (by first | assumption | omega) (by first | assumption | omega) (by first | assumption | omega)) (cwV 2 hts (lw_V q2062 q2064 qs76 q105 q2065) rfl rfl rfl (by decide +kernel) ⟨Nat.le_of_ble_eq_true rfl, Nat.le_of_ble_eq_true rfl⟩) hK hZ hA hP hD hS [0, 1, 2, 3, 4, 5, 6, 7, 8, 9] [] rfl rfl (by decide) (by decide) (by decide) 0 4 rfl rfl rfl hl.1 (Nat.le_of_ble_eq_true rfl) ⟨Nat.le_of_ble_eq_true rfl, Nat.le_of_ble_eq_true rfl⟩ rfl dX5_isSinging_43 (fun r9 u9 H locs hw9 hP hD hS => ?_)
              subst hw9
              have hP : va_P G.1 CL (MW G mh md nr nc pL pG pB pk bf hi sv ch hs inp ty er wy wd rf lt ln th tr mv fo sp wr td) _ := hP
              have hD : va_D A (MW G mh md nr nc pL pG pB pk bf hi sv ch hs inp ty er wy wd rf lt ln th tr mv fo sp wr td) := hD
              refine b_if_ne (tgt := 53) hx hb dX5_isSinging_46 (by decide) (fun c46 => ?_) (fun c46 => ?_)
              · skip
                refine lv_iconst (v := nI 0) hx hb dX5_isSinging_53 (by decide) ?_
                refine lv_istore_n (lv' := [(2, .int (nI 0)), (3, .int (nI k)), (0, .ref mh), (1, .int (nI ll))]) hx hb dX5_isSinging_54 rfl hl (by decide) rfl (fun ls hl => ?_)
                refine lv_iinc (v := nI (k + 1)) (lv' := [(3, .int (nI (k + 1))), (2, .int (nI 0)), (0, .ref mh), (1, .int (nI ll))]) hx hb dX5_isSinging_55 hl (k := 1) rfl (nI_add _ _) (by decide) rfl (fun ls hl => ?_)
                refine lv_goto (tgt := 16) hx hb dX5_isSinging_58 (by decide) ?_
                exact ih16 (k + 1) false (by omega) (by omega) (by rw [al, ← Bool.and_assoc, ← hb0]; first | (rw [c26]; rfl) | (rw [Nat.mod_eq_of_lt (show k < szOf nr nc ll by omega)] at c35; simp only [c26, c35, c46]; rfl)) _ _ _ hP hD hS (lv_sub hl [0, 1, 2, 3] rfl)
              · skip
                refine lv_iconst (v := nI 1) hx hb dX5_isSinging_49 (by decide) ?_
                refine lv_goto (tgt := 54) hx hb dX5_isSinging_50 (by decide) ?_
                refine lv_istore_n (lv' := [(2, .int (nI 1)), (3, .int (nI k)), (0, .ref mh), (1, .int (nI ll))]) hx hb dX5_isSinging_54 rfl hl (by decide) rfl (fun ls hl => ?_)
                refine lv_iinc (v := nI (k + 1)) (lv' := [(3, .int (nI (k + 1))), (2, .int (nI 1)), (0, .ref mh), (1, .int (nI ll))]) hx hb dX5_isSinging_55 hl (k := 1) rfl (nI_add _ _) (by decide) rfl (fun ls hl => ?_)
                refine lv_goto (tgt := 16) hx hb dX5_isSinging_58 (by decide) ?_
                exact ih16 (k + 1) true (by omega) (by omega) (by rw [al, ← Bool.and_assoc, ← hb0, c26]; first | (rw [Nat.mod_eq_of_lt (show k < szOf nr nc ll by omega)] at c35; simp only [c35]; rfl) | (simp only [c46, Bool.not_false, Bool.or_true]; rfl)) _ _ _ hP hD hS (lv_sub hl [0, 1, 2, 3] rfl)
    exact lp16 _ 0 true (Nat.lt_succ_self _) (by omega) (by first | (rw [decide_eq_true c5]; rfl) | (rw [decide_eq_false (by omega)]; rfl)) _ _ _ hP hD hS (lv_sub hl [0, 1, 2, 3] rfl)
set_option maxHeartbeats 4000000 in
set_option maxRecDepth 100000 in
theorem m_X5_sings (l : Launch) (G : GG) (mh : Nat) (md : Nat → Nat) (nr : Nat) (nc : Nat) (pL : Nat → Nat) (pG : Nat → Nat) (pB : Nat → Bool) (pk : Nat → Int32) (bf : Nat → Int32) (hi : Nat → Int32) (sv : Nat → Int32) (ch : Nat) (hs : Bool) (inp : Nat → Nat) (ty : Nat) (er : Int32) (wy : Int32) (wd : Int32) (rf : Bool) (lt : Nat → Nat) (ln : Nat) (th : Int32) (tr : Nat → Nat) (mv : Nat → Nat) (fo : Int32) (sp : Nat) (wr : Bool) (td : Nat → Int32) (pa : Int32) (hd : 2 ≤ nr ∧ nr ≤ 3 ∧ 2 ≤ nc ∧ nc ≤ 3) (hLR : ∀ q, q < nr * nc → 97 ≤ pL q ∧ pL q ≤ 108) : MM l G yX5_sings cX5_sings 2 (some .boolean) ⟨4, 0, 0, 90⟩ [.ref mh, .int pa] (MW G mh md nr nc pL pG pB pk bf hi sv ch hs inp ty er wy wd rf lt ln th tr mv fo sp wr td) (Qi_ G (fun (r : Int32) (_ : Unit) => r = bI (if isIx pa (nr + nc) = true then snN nr nc pL (cl_ pa) else false)) (fun (_ : Unit) => (MW G mh md nr nc pL pG pB pk bf hi sv ch hs inp ty er wy wd rf lt ln (if isIx pa (nr + nc) = true then nI 0 else nI 1) tr mv fo sp wr td))) := by
  refine MM.of (by decide) (Nat.le_of_ble_eq_true rfl) ?_
  intro p e s m args below meth cd A C hini hA hK hZ hP hD ls hl
  generalize hQ : MQ below ((Qi_ G (fun (r : Int32) (_ : Unit) => r = bI (if isIx pa (nr + nc) = true then snN nr nc pL (cl_ pa) else false)) (fun (_ : Unit) => (MW G mh md nr nc pL pG pB pk bf hi sv ch hs inp ty er wy wd rf lt ln (if isIx pa (nr + nc) = true then nI 0 else nI 1) tr mv fo sp wr td))) A) args s (⟨4, 0, 0, 90⟩ : Room).cells (⟨4, 0, 0, 90⟩ : Room).slots A = Q
  obtain ⟨hx, hb, hr, hts, hown, hlk, hml⟩ := C
  have hown : s.vm.findClass RX5 = some m.cls := hown
  have hS : va_S A s.heap s.heap [] := va_S.rf
  have hl : lv_has ls 2 [(0, .ref mh), (1, .int pa)] := hl
  have hmu := dm_mul hd
  refine lv_aload_n hx hb dX5_sings_0 rfl (lv_at hl 0 rfl) ?_
  refine lv_aload_n hx hb dX5_sings_1 rfl (lv_at hl 0 rfl) ?_
  refine lv_iload_n hx hb dX5_sings_2 rfl (lv_at hl 1 rfl) ?_
  refine callVi (As := [.int pa]) (rest := [.ref mh]) (wc := (MW G mh md nr nc pL pG pB pk bf hi sv ch hs inp ty er wy wd rf lt ln th tr mv fo sp wr td)) (wr := ([] : va_W)) ⟨hx, hb, hml, hown, hts⟩ (m_X5_isLine l G mh md nr nc pL pG pB pk bf hi sv ch hs inp ty er wy wd rf lt ln th tr mv fo sp wr td pa (by first | assumption | omega)) (cwV 1 hts (lw_V q1931 q1933 qs60 q105 q1934) rfl rfl rfl (by decide +kernel) ⟨Nat.le_of_ble_eq_true rfl, Nat.le_of_ble_eq_true rfl⟩) hK hZ hA hP hD hS [0, 1, 2, 3, 4, 5, 6, 7, 8, 9] [] rfl rfl (by decide) (by decide) (by decide) 0 4 rfl rfl rfl hl.1 (Nat.le_of_ble_eq_true rfl) ⟨Nat.le_of_ble_eq_true rfl, Nat.le_of_ble_eq_true rfl⟩ rfl dX5_sings_3 (fun r9 u9 H locs hw9 hP hD hS => ?_)
  subst hw9
  have hP : va_P G.1 CL (MW G mh md nr nc pL pG pB pk bf hi sv ch hs inp ty er wy wd rf lt ln th tr mv fo sp wr td) _ := hP
  have hD : va_D A (MW G mh md nr nc pL pG pB pk bf hi sv ch hs inp ty er wy wd rf lt ln th tr mv fo sp wr td) := hD
  refine b_if_eq (tgt := 13) hx hb dX5_sings_6 (by decide) (fun c6 => ?_) (fun c6 => ?_)
  · skip
    refine lv_iconst (v := nI 1) hx hb dX5_sings_13 (by decide) ?_
    refine va_put (D := G.1) (ci := 4) (v := .int (nI 1)) (ty := .int) (C := RX5) (T := TX5) (N := 21) hx hb hts in_X5 tyX5 tyX5_ok nmX5 hown hK hP hD hS 0 rfl rfl 14 (by decide) (hts _ q1741) (fun _ h9 => h9) rfl (by decide +kernel) rfl rfl (Nat.le_of_ble_eq_true rfl) dX5_sings_14 (fun H locs hP hD hS => ?_)
    have hP : va_P G.1 CL (MW G mh md nr nc pL pG pB pk bf hi sv ch hs inp ty er wy wd rf lt ln (nI 1) tr mv fo sp wr td) _ := hP
    have hD : va_D A (MW G mh md nr nc pL pG pB pk bf hi sv ch hs inp ty er wy wd rf lt ln (nI 1) tr mv fo sp wr td) := hD
    refine lv_aload_n hx hb dX5_sings_17 rfl (lv_at hl 0 rfl) ?_
    refine va_get (D := G.1) (ci := 4) (v := .int (nI 1)) (C := RX5) (T := TX5) (N := 21) hx hb hts in_X5 hown hK hP 0 rfl rfl 14 (by decide) (hts _ q1741) (fun _ h9 => h9) rfl dX5_sings_18 ?_
    refine n_if_ne (tgt := 36) hx hb dX5_sings_21 (by decide) (by decide) (fun c21 => ?_) (fun c21 => ?_)
    rotate_left
    · exact absurd c21 (by decide)
    refine lv_iconst (v := nI 0) hx hb dX5_sings_36 (by decide) ?_
    have e_th : nI 1 = (if isIx pa (nr + nc) = true then nI 0 else nI 1) := (if_neg (by rw [c6]; decide)).symm
    rw [e_th] at hP hD
    subst hQ
    exact ret_i hx hb hr hlk () (bI_0 (by first | (rw [if_pos c6, cl_n (by omega), c29]) | (rw [if_neg (by rw [c6]; decide)]))) hP hD hS rfl dX5_sings_37
  · skip
    refine lv_iconst (v := nI 0) hx hb dX5_sings_9 (by decide) ?_
    refine lv_goto (tgt := 14) hx hb dX5_sings_10 (by decide) ?_
    refine va_put (D := G.1) (ci := 4) (v := .int (nI 0)) (ty := .int) (C := RX5) (T := TX5) (N := 21) hx hb hts in_X5 tyX5 tyX5_ok nmX5 hown hK hP hD hS 0 rfl rfl 14 (by decide) (hts _ q1741) (fun _ h9 => h9) rfl (by decide +kernel) rfl rfl (Nat.le_of_ble_eq_true rfl) dX5_sings_14 (fun H locs hP hD hS => ?_)
    have hP : va_P G.1 CL (MW G mh md nr nc pL pG pB pk bf hi sv ch hs inp ty er wy wd rf lt ln (nI 0) tr mv fo sp wr td) _ := hP
    have hD : va_D A (MW G mh md nr nc pL pG pB pk bf hi sv ch hs inp ty er wy wd rf lt ln (nI 0) tr mv fo sp wr td) := hD
    refine lv_aload_n hx hb dX5_sings_17 rfl (lv_at hl 0 rfl) ?_
    refine va_get (D := G.1) (ci := 4) (v := .int (nI 0)) (C := RX5) (T := TX5) (N := 21) hx hb hts in_X5 hown hK hP 0 rfl rfl 14 (by decide) (hts _ q1741) (fun _ h9 => h9) rfl dX5_sings_18 ?_
    refine n_if_ne (tgt := 36) hx hb dX5_sings_21 (by decide) (by decide) (fun c21 => ?_) (fun c21 => ?_)
    · exact absurd c21 (by decide)
    obtain ⟨ka, hka, rfl⟩ := isIx_t c6 (by omega)
    refine lv_aload_n hx hb dX5_sings_24 rfl (lv_at hl 0 rfl) ?_
    refine lv_iload_n hx hb dX5_sings_25 rfl (lv_at hl 1 rfl) ?_
    refine callVi (As := [.int (nI ka)]) (rest := []) (wc := (MW G mh md nr nc pL pG pB pk bf hi sv ch hs inp ty er wy wd rf lt ln (nI 0) tr mv fo sp wr td)) (wr := ([] : va_W)) ⟨hx, hb, hml, hown, hts⟩ (m_X5_isSinging l G mh md nr nc pL pG pB pk bf hi sv ch hs inp ty er wy wd rf lt ln (nI 0) tr mv fo sp wr td ka (by first | assumption | omega) (by first | assumption | omega) (by first | assumption | omega)) (cwV 1 hts (lw_V q2050 q2052 qs73 q105 q2053) rfl rfl rfl (by decide +kernel) ⟨Nat.le_of_ble_eq_true rfl, Nat.le_of_ble_eq_true rfl⟩) hK hZ hA hP hD hS [0, 1, 2, 3, 4, 5, 6, 7, 8, 9] [] rfl rfl (by decide) (by decide) (by decide) 0 4 rfl rfl rfl hl.1 (Nat.le_of_ble_eq_true rfl) ⟨Nat.le_of_ble_eq_true rfl, Nat.le_of_ble_eq_true rfl⟩ rfl dX5_sings_26 (fun r9 u9 H locs hw9 hP hD hS => ?_)
    subst hw9
    have hP : va_P G.1 CL (MW G mh md nr nc pL pG pB pk bf hi sv ch hs inp ty er wy wd rf lt ln (nI 0) tr mv fo sp wr td) _ := hP
    have hD : va_D A (MW G mh md nr nc pL pG pB pk bf hi sv ch hs inp ty er wy wd rf lt ln (nI 0) tr mv fo sp wr td) := hD
    refine b_if_eq (tgt := 36) hx hb dX5_sings_29 (by decide) (fun c29 => ?_) (fun c29 => ?_)
    · skip
      refine lv_iconst (v := nI 0) hx hb dX5_sings_36 (by decide) ?_
      have e_th : nI 0 = (if isIx (nI ka) (nr + nc) = true then nI 0 else nI 1) := (if_pos c6).symm
      rw [e_th] at hP hD
      subst hQ
      exact ret_i hx hb hr hlk () (bI_0 (by first | (rw [if_pos c6, cl_n (by omega), c29]) | (rw [if_neg (by rw [c6]; decide)]))) hP hD hS rfl dX5_sings_37
    · skip
      refine lv_iconst (v := nI 1) hx hb dX5_sings_32 (by decide) ?_
      refine lv_goto (tgt := 37) hx hb dX5_sings_33 (by decide) ?_
      have e_th : nI 0 = (if isIx (nI ka) (nr + nc) = true then nI 0 else nI 1) := (if_pos c6).symm
      rw [e_th] at hP hD
      subst hQ
      exact ret_i hx hb hr hlk () (bI_1 (by rw [if_pos c6, cl_n (by omega), c29])) hP hD hS rfl dX5_sings_37
set_option maxHeartbeats 4000000 in
set_option maxRecDepth 100000 in
theorem m_X5_singing (l : Launch) (G : GG) (mh : Nat) (md : Nat → Nat) (nr : Nat) (nc : Nat) (pL : Nat → Nat) (pG : Nat → Nat) (pB : Nat → Bool) (pk : Nat → Int32) (bf : Nat → Int32) (hi : Nat → Int32) (sv : Nat → Int32) (ch : Nat) (hs : Bool) (inp : Nat → Nat) (ty : Nat) (er : Int32) (wy : Int32) (wd : Int32) (rf : Bool) (lt : Nat → Nat) (ln : Nat) (th : Int32) (tr : Nat → Nat) (mv : Nat → Nat) (fo : Int32) (sp : Nat) (wr : Bool) (td : Nat → Int32) (hd : 2 ≤ nr ∧ nr ≤ 3 ∧ 2 ≤ nc ∧ nc ≤ 3) (hLR : ∀ q, q < nr * nc → 97 ≤ pL q ∧ pL q ≤ 108) : MM l G yX5_singing cX5_singing 3 (some .int) ⟨4, 0, 0, 90⟩ [.ref mh] (MW G mh md nr nc pL pG pB pk bf hi sv ch hs inp ty er wy wd rf lt ln th tr mv fo sp wr td) (Qi_ G (fun (r : Int32) (_ : Unit) => r = nI (cn (snN nr nc pL) (nr + nc))) (fun (_ : Unit) => (MW G mh md nr nc pL pG pB pk bf hi sv ch hs inp ty er wy wd rf lt ln (nI 0) tr mv fo sp wr td))) := by
  refine MM.of (by decide) (Nat.le_of_ble_eq_true rfl) ?_
  intro p e s m args below meth cd A C hini hA hK hZ hP hD ls hl
  generalize hQ : MQ below ((Qi_ G (fun (r : Int32) (_ : Unit) => r = nI (cn (snN nr nc pL) (nr + nc))) (fun (_ : Unit) => (MW G mh md nr nc pL pG pB pk bf hi sv ch hs inp ty er wy wd rf lt ln (nI 0) tr mv fo sp wr td))) A) args s (⟨4, 0, 0, 90⟩ : Room).cells (⟨4, 0, 0, 90⟩ : Room).slots A = Q
  obtain ⟨hx, hb, hr, hts, hown, hlk, hml⟩ := C
  have hown : s.vm.findClass RX5 = some m.cls := hown
  have hS : va_S A s.heap s.heap [] := va_S.rf
  have hl : lv_has ls 3 [(0, .ref mh)] := hl
  have hmu := dm_mul hd
  refine lv_iconst (v := nI 0) hx hb dX5_singing_0 (by decide) ?_
  refine lv_istore_n (lv' := [(1, .int (nI 0)), (0, .ref mh)]) hx hb dX5_singing_1 rfl hl (by decide) rfl (fun ls hl => ?_)
  refine lv_iconst (v := nI 0) hx hb dX5_singing_2 (by decide) ?_
  refine lv_istore_n (lv' := [(2, .int (nI 0)), (1, .int (nI 0)), (0, .ref mh)]) hx hb dX5_singing_3 rfl hl (by decide) rfl (fun ls hl => ?_)
  have lp4 : ∀ (f : Nat) (v : Nat) (n : Nat), nr + nc - v < f → (v ≤ nr + nc) → (n = cn (snN nr nc pL) v) → ∀ (H : Heap) (locs : List Loc) (ls : Array Slot), va_P G.1 CL (MW G mh md nr nc pL pG pB pk bf hi sv ch hs inp ty er wy wd rf lt ln th tr mv fo sp wr td) H → va_D A (MW G mh md nr nc pL pG pB pk bf hi sv ch hs inp ty er wy wd rf lt ln th tr mv fo sp wr td) → va_S A s.heap H locs → lv_has ls 3 [(2, .int (nI v)), (1, .int (nI n)), (0, .ref mh)] → W p l e (⟨4, 0, 0, 90⟩ : Room) s m args below meth cd H locs 0 0 Q (F0 m 4 ls []) := by
    intro f
    induction f with
    | zero => intro v n hf; exact absurd hf (Nat.not_lt_zero _)
    | succ f ih4 =>
      intro v n hf hv9 hn H locs ls hP hD hS hl
      refine lv_iload_n hx hb dX5_singing_4 rfl (lv_at hl 0 rfl) ?_
      refine lv_aload_n hx hb dX5_singing_5 rfl (lv_at hl 2 rfl) ?_
      refine callVi (As := []) (rest := [.int (nI v)]) (wc := (MW G mh md nr nc pL pG pB pk bf hi sv ch hs inp ty er wy wd rf lt ln th tr mv fo sp wr td)) (wr := ([] : va_W)) ⟨hx, hb, hml, hown, hts⟩ (m_X5_lines l G mh md nr nc pL pG pB pk bf hi sv ch hs inp ty er wy wd rf lt ln th tr mv fo sp wr td ) (cwV 0 hts (lw_V q1875 q1877 qs48 q105 q1878) rfl rfl rfl (by decide +kernel) ⟨Nat.le_of_ble_eq_true rfl, Nat.le_of_ble_eq_true rfl⟩) hK hZ hA hP hD hS [0, 1, 2, 3, 4, 5, 6, 7, 8, 9] [] rfl rfl (by decide) (by decide) (by decide) 0 4 rfl rfl rfl hl.1 (Nat.le_of_ble_eq_true rfl) ⟨Nat.le_of_ble_eq_true rfl, Nat.le_of_ble_eq_true rfl⟩ rfl dX5_singing_6 (fun r9 u9 H locs hw9 hP hD hS => ?_)
      subst hw9
      have hP : va_P G.1 CL (MW G mh md nr nc pL pG pB pk bf hi sv ch hs inp ty er wy wd rf lt ln th tr mv fo sp wr td) _ := hP
      have hD : va_D A (MW G mh md nr nc pL pG pB pk bf hi sv ch hs inp ty er wy wd rf lt ln th tr mv fo sp wr td) := hD
      refine n_cmp_ge (tgt := 34) hx hb dX5_singing_9 (by decide) (by omega) (by omega) (fun c9 => ?_) (fun c9 => ?_)
      · skip
        refine lv_aload_n hx hb dX5_singing_34 rfl (lv_at hl 2 rfl) ?_
        refine lv_iload_n hx hb dX5_singing_35 rfl (lv_at hl 1 rfl) ?_
        refine callVi (As := [.int (nI n)]) (rest := []) (wc := (MW G mh md nr nc pL pG pB pk bf hi sv ch hs inp ty er wy wd rf lt ln th tr mv fo sp wr td)) (wr := ([] : va_W)) ⟨hx, hb, hml, hown, hts⟩ (m_X5_done l G mh md nr nc pL pG pB pk bf hi sv ch hs inp ty er wy wd rf lt ln th tr mv fo sp wr td (nI n) ) (cwV 1 hts (lw_V q1821 q1823 qs39 q105 q1824) rfl rfl rfl (by decide +kernel) ⟨Nat.le_of_ble_eq_true rfl, Nat.le_of_ble_eq_true rfl⟩) hK hZ hA hP hD hS [0, 1, 2, 3, 4, 5, 6, 7, 8, 9] [] rfl rfl (by decide) (by decide) (by decide) 0 4 rfl rfl rfl hl.1 (Nat.le_of_ble_eq_true rfl) ⟨Nat.le_of_ble_eq_true rfl, Nat.le_of_ble_eq_true rfl⟩ rfl dX5_singing_36 (fun r9 u9 H locs hw9 hP hD hS => ?_)
        subst hw9
        have hP : va_P G.1 CL (MW G mh md nr nc pL pG pB pk bf hi sv ch hs inp ty er wy wd rf lt ln (nI 0) tr mv fo sp wr td) _ := hP
        have hD : va_D A (MW G mh md nr nc pL pG pB pk bf hi sv ch hs inp ty er wy wd rf lt ln (nI 0) tr mv fo sp wr td) := hD
        subst hQ
        exact ret_i hx hb hr hlk () (by rw [hn, show v = nr + nc by omega]) hP hD hS rfl dX5_singing_39
      · skip
        refine lv_iload_n hx hb dX5_singing_12 rfl (lv_at hl 1 rfl) ?_
        refine lv_aload_n hx hb dX5_singing_13 rfl (lv_at hl 2 rfl) ?_
        refine lv_iload_n hx hb dX5_singing_14 rfl (lv_at hl 0 rfl) ?_
        refine callVi (As := [.int (nI v)]) (rest := [.int (nI n)]) (wc := (MW G mh md nr nc pL pG pB pk bf hi sv ch hs inp ty er wy wd rf lt ln th tr mv fo sp wr td)) (wr := ([] : va_W)) ⟨hx, hb, hml, hown, hts⟩ (m_X5_isSinging l G mh md nr nc pL pG pB pk bf hi sv ch hs inp ty er wy wd rf lt ln th tr mv fo sp wr td v (by first | assumption | omega) (by first | assumption | omega) (by first | assumption | omega)) (cwV 1 hts (lw_V q2050 q2052 qs73 q105 q2053) rfl rfl rfl (by decide +kernel) ⟨Nat.le_of_ble_eq_true rfl, Nat.le_of_ble_eq_true rfl⟩) hK hZ hA hP hD hS [0, 1, 2, 3, 4, 5, 6, 7, 8, 9] [] rfl rfl (by decide) (by decide) (by decide) 0 4 rfl rfl rfl hl.1 (Nat.le_of_ble_eq_true rfl) ⟨Nat.le_of_ble_eq_true rfl, Nat.le_of_ble_eq_true rfl⟩ rfl dX5_singing_15 (fun r9 u9 H locs hw9 hP hD hS => ?_)
        subst hw9
        have hP : va_P G.1 CL (MW G mh md nr nc pL pG pB pk bf hi sv ch hs inp ty er wy wd rf lt ln th tr mv fo sp wr td) _ := hP
        have hD : va_D A (MW G mh md nr nc pL pG pB pk bf hi sv ch hs inp ty er wy wd rf lt ln th tr mv fo sp wr td) := hD
        refine b_if_eq (tgt := 25) hx hb dX5_singing_18 (by decide) (fun c18 => ?_) (fun c18 => ?_)
        · skip
          refine lv_iconst (v := nI 0) hx hb dX5_singing_25 (by decide) ?_
          refine n_iadd hx hb dX5_singing_26 ?_
          refine lv_istore_n (lv' := [(1, .int (nI (n + 0))), (2, .int (nI v)), (0, .ref mh)]) hx hb dX5_singing_27 rfl hl (by decide) rfl (fun ls hl => ?_)
          refine lv_iinc (v := nI (v + 1)) (lv' := [(2, .int (nI (v + 1))), (1, .int (nI (n + 0))), (0, .ref mh)]) hx hb dX5_singing_28 hl (k := 1) rfl (nI_add _ _) (by decide) rfl (fun ls hl => ?_)
          refine lv_goto (tgt := 4) hx hb dX5_singing_31 (by decide) ?_
          exact ih4 (v + 1) (n + 0) (by omega) (by omega) (hn ▸ cn_f c18) _ _ _ hP hD hS (lv_sub hl [0, 1, 2] rfl)
        · skip
          refine lv_iconst (v := nI 1) hx hb dX5_singing_21 (by decide) ?_
          refine lv_goto (tgt := 26) hx hb dX5_singing_22 (by decide) ?_
          refine n_iadd hx hb dX5_singing_26 ?_
          refine lv_istore_n (lv' := [(1, .int (nI (n + 1))), (2, .int (nI v)), (0, .ref mh)]) hx hb dX5_singing_27 rfl hl (by decide) rfl (fun ls hl => ?_)
          refine lv_iinc (v := nI (v + 1)) (lv' := [(2, .int (nI (v + 1))), (1, .int (nI (n + 1))), (0, .ref mh)]) hx hb dX5_singing_28 hl (k := 1) rfl (nI_add _ _) (by decide) rfl (fun ls hl => ?_)
          refine lv_goto (tgt := 4) hx hb dX5_singing_31 (by decide) ?_
          exact ih4 (v + 1) (n + 1) (by omega) (by omega) (hn ▸ cn_t c18) _ _ _ hP hD hS (lv_sub hl [0, 1, 2] rfl)
  exact lp4 _ 0 0 (Nat.lt_succ_self _) (by omega) rfl _ _ _ hP hD hS (lv_sub hl [0, 1, 2] rfl)
set_option maxHeartbeats 4000000 in
set_option maxRecDepth 100000 in
theorem m_X5_ranked (l : Launch) (G : GG) (mh : Nat) (md : Nat → Nat) (nr : Nat) (nc : Nat) (pL : Nat → Nat) (pG : Nat → Nat) (pB : Nat → Bool) (pk : Nat → Int32) (bf : Nat → Int32) (hi : Nat → Int32) (sv : Nat → Int32) (ch : Nat) (hs : Bool) (inp : Nat → Nat) (ty : Nat) (er : Int32) (wy : Int32) (wd : Int32) (rf : Bool) (lt : Nat → Nat) (ln : Nat) (th : Int32) (tr : Nat → Nat) (mv : Nat → Nat) (fo : Int32) (sp : Nat) (wr : Bool) (td : Nat → Int32) (pa : Int32) (hd : 2 ≤ nr ∧ nr ≤ 3 ∧ 2 ≤ nc ∧ nc ≤ 3) (hLR : ∀ q, q < nr * nc → 97 ≤ pL q ∧ pL q ≤ 108) : MM l G yX5_ranked cX5_ranked 5 (some .int) ⟨3, 0, 0, 67⟩ [.ref mh, .int pa] (MW G mh md nr nc pL pG pB pk bf hi sv ch hs inp ty er wy wd rf lt ln th tr mv fo sp wr td) (Qi_ G (fun (r : Int32) (u : (Bool)) => r = (if (rkN nr nc pL pa) < nr + nc then nI (rkN nr nc pL pa) else nI 0)) (fun (u : (Bool)) => (MW G mh md nr nc pL pG pB pk bf hi sv ch hs inp ty er wy wd u lt ln (if (rkN nr nc pL pa) < nr + nc then nI 0 else nI 1) tr mv fo sp wr td))) := by
  refine MM.of (by decide) (Nat.le_of_ble_eq_true rfl) ?_
  intro p e s m args below meth cd A C hini hA hK hZ hP hD ls hl
  generalize hQ : MQ below ((Qi_ G (fun (r : Int32) (u : (Bool)) => r = (if (rkN nr nc pL pa) < nr + nc then nI (rkN nr nc pL pa) else nI 0)) (fun (u : (Bool)) => (MW G mh md nr nc pL pG pB pk bf hi sv ch hs inp ty er wy wd u lt ln (if (rkN nr nc pL pa) < nr + nc then nI 0 else nI 1) tr mv fo sp wr td))) A) args s (⟨3, 0, 0, 67⟩ : Room).cells (⟨3, 0, 0, 67⟩ : Room).slots A = Q
  obtain ⟨hx, hb, hr, hts, hown, hlk, hml⟩ := C
  have hown : s.vm.findClass RX5 = some m.cls := hown
  have hS : va_S A s.heap s.heap [] := va_S.rf
  have hl : lv_has ls 5 [(0, .ref mh), (1, .int pa)] := hl
  have hmu := dm_mul hd
  refine lv_iconst (v := nI 0) hx hb dX5_ranked_0 (by decide) ?_
  refine lv_istore_n (lv' := [(2, .int (nI 0)), (0, .ref mh), (1, .int pa)]) hx hb dX5_ranked_1 rfl hl (by decide) rfl (fun ls hl => ?_)
  have lp2 : ∀ (f : Nat) (v : Nat), nr + nc - v < f → (v ≤ nr + nc) → (fx (fun l => decide (nI (bfN nr nc pL l) = pa)) v = v) → ∀ (H : Heap) (locs : List Loc) (ls : Array Slot), va_P G.1 CL (MW G mh md nr nc pL pG pB pk bf hi sv ch hs inp ty er wy wd rf lt ln th tr mv fo sp wr td) H → va_D A (MW G mh md nr nc pL pG pB pk bf hi sv ch hs inp ty er wy wd rf lt ln th tr mv fo sp wr td) → va_S A s.heap H locs → lv_has ls 5 [(0, .ref mh), (1, .int pa), (2, .int (nI v))] → W p l e (⟨3, 0, 0, 67⟩ : Room) s m args below meth cd H locs 0 0 Q (F0 m 2 ls []) := by
    intro f
    induction f with
    | zero => intro v hf; exact absurd hf (Nat.not_lt_zero _)
    | succ f ih2 =>
      intro v hf hv9 hr9 H locs ls hP hD hS hl
      refine lv_iload_n hx hb dX5_ranked_2 rfl (lv_at hl 2 rfl) ?_
      refine lv_aload_n hx hb dX5_ranked_3 rfl (lv_at hl 0 rfl) ?_
      refine callVi (As := []) (rest := [.int (nI v)]) (wc := (MW G mh md nr nc pL pG pB pk bf hi sv ch hs inp ty er wy wd rf lt ln th tr mv fo sp wr td)) (wr := ([] : va_W)) ⟨hx, hb, hml, hown, hts⟩ (m_X5_lines l G mh md nr nc pL pG pB pk bf hi sv ch hs inp ty er wy wd rf lt ln th tr mv fo sp wr td ) (cwV 0 hts (lw_V q1875 q1877 qs48 q105 q1878) rfl rfl rfl (by decide +kernel) ⟨Nat.le_of_ble_eq_true rfl, Nat.le_of_ble_eq_true rfl⟩) hK hZ hA hP hD hS [0, 1, 2, 3, 4, 5, 6, 7, 8, 9] [] rfl rfl (by decide) (by decide) (by decide) 0 4 rfl rfl rfl hl.1 (Nat.le_of_ble_eq_true rfl) ⟨Nat.le_of_ble_eq_true rfl, Nat.le_of_ble_eq_true rfl⟩ rfl dX5_ranked_4 (fun r9 u9 H locs hw9 hP hD hS => ?_)
      subst hw9
      have hP : va_P G.1 CL (MW G mh md nr nc pL pG pB pk bf hi sv ch hs inp ty er wy wd rf lt ln th tr mv fo sp wr td) _ := hP
      have hD : va_D A (MW G mh md nr nc pL pG pB pk bf hi sv ch hs inp ty er wy wd rf lt ln th tr mv fo sp wr td) := hD
      refine n_cmp_ge (tgt := 89) hx hb dX5_ranked_7 (by decide) (by omega) (by omega) (fun c7 => ?_) (fun c7 => ?_)
      · skip
        have hrk : rkN nr nc pL pa = nr + nc := by rw [show v = nr + nc by omega] at hr9; exact hr9
        refine lv_aload_n hx hb dX5_ranked_89 rfl (lv_at hl 0 rfl) ?_
        refine lv_iconst (v := nI 1) hx hb dX5_ranked_90 (by decide) ?_
        refine callVi (As := [.int (nI 1)]) (rest := []) (wc := (MW G mh md nr nc pL pG pB pk bf hi sv ch hs inp ty er wy wd rf lt ln th tr mv fo sp wr td)) (wr := ([] : va_W)) ⟨hx, hb, hml, hown, hts⟩ (m_X5_fails l G mh md nr nc pL pG pB pk bf hi sv ch hs inp ty er wy wd rf lt ln th tr mv fo sp wr td (nI 1) ) (cwV 1 hts (lw_V q1813 q1815 qs37 q105 q1816) rfl rfl rfl (by decide +kernel) ⟨Nat.le_of_ble_eq_true rfl, Nat.le_of_ble_eq_true rfl⟩) hK hZ hA hP hD hS [0, 1, 2, 3, 4, 5, 6, 7, 8, 9] [] rfl rfl (by decide) (by decide) (by decide) 0 4 rfl rfl rfl hl.1 (Nat.le_of_ble_eq_true rfl) ⟨Nat.le_of_ble_eq_true rfl, Nat.le_of_ble_eq_true rfl⟩ rfl dX5_ranked_91 (fun r9 u9 H locs hw9 hP hD hS => ?_)
        subst hw9
        have hP : va_P G.1 CL (MW G mh md nr nc pL pG pB pk bf hi sv ch hs inp ty er wy wd false lt ln (nI 1) tr mv fo sp wr td) _ := hP
        have hD : va_D A (MW G mh md nr nc pL pG pB pk bf hi sv ch hs inp ty er wy wd false lt ln (nI 1) tr mv fo sp wr td) := hD
        have e_th : (nI 1) = (if (rkN nr nc pL pa) < nr + nc then nI 0 else nI 1) := (if_neg (by omega)).symm
        rw [e_th] at hP hD
        subst hQ
        exact ret_i hx hb hr hlk false (by rw [if_neg (by omega)]) hP hD hS rfl dX5_ranked_94
      · skip
        refine lv_iconst (v := nI 0) hx hb dX5_ranked_10 (by decide) ?_
        refine lv_istore_n (lv' := [(3, .int (nI 0)), (0, .ref mh), (1, .int pa), (2, .int (nI v))]) hx hb dX5_ranked_11 rfl hl (by decide) rfl (fun ls hl => ?_)
        refine lv_iconst (v := nI 0) hx hb dX5_ranked_12 (by decide) ?_
        refine lv_istore (lv' := [(4, .int (nI 0)), (3, .int (nI 0)), (0, .ref mh), (1, .int pa), (2, .int (nI v))]) hx hb dX5_ranked_13 hl (by decide) rfl (fun ls hl => ?_)
        have lp15 : ∀ (f : Nat) (o : Nat) (n : Nat), nr + nc - o < f → (o ≤ nr + nc) → (n = cn (fun o => decide (vwsN nr nc pL v < vwsN nr nc pL o ∨ (vwsN nr nc pL o = vwsN nr nc pL v ∧ o < v))) o) → ∀ (H : Heap) (locs : List Loc) (ls : Array Slot), va_P G.1 CL (MW G mh md nr nc pL pG pB pk bf hi sv ch hs inp ty er wy wd rf lt ln th tr mv fo sp wr td) H → va_D A (MW G mh md nr nc pL pG pB pk bf hi sv ch hs inp ty er wy wd rf lt ln th tr mv fo sp wr td) → va_S A s.heap H locs → lv_has ls 5 [(4, .int (nI o)), (3, .int (nI n)), (0, .ref mh), (1, .int pa), (2, .int (nI v))] → W p l e (⟨3, 0, 0, 67⟩ : Room) s m args below meth cd H locs 0 0 Q (F0 m 15 ls []) := by
          intro f
          induction f with
          | zero => intro o n hf; exact absurd hf (Nat.not_lt_zero _)
          | succ f ih15 =>
            intro o n hf ho9 hn2 H locs ls hP hD hS hl
            refine lv_iload hx hb dX5_ranked_15 (lv_at hl 0 rfl) ?_
            refine lv_aload_n hx hb dX5_ranked_17 rfl (lv_at hl 2 rfl) ?_
            refine callVi (As := []) (rest := [.int (nI o)]) (wc := (MW G mh md nr nc pL pG pB pk bf hi sv ch hs inp ty er wy wd rf lt ln th tr mv fo sp wr td)) (wr := ([] : va_W)) ⟨hx, hb, hml, hown, hts⟩ (m_X5_lines l G mh md nr nc pL pG pB pk bf hi sv ch hs inp ty er wy wd rf lt ln th tr mv fo sp wr td ) (cwV 0 hts (lw_V q1875 q1877 qs48 q105 q1878) rfl rfl rfl (by decide +kernel) ⟨Nat.le_of_ble_eq_true rfl, Nat.le_of_ble_eq_true rfl⟩) hK hZ hA hP hD hS [0, 1, 2, 3, 4, 5, 6, 7, 8, 9] [] rfl rfl (by decide) (by decide) (by decide) 0 4 rfl rfl rfl hl.1 (Nat.le_of_ble_eq_true rfl) ⟨Nat.le_of_ble_eq_true rfl, Nat.le_of_ble_eq_true rfl⟩ rfl dX5_ranked_18 (fun r9 u9 H locs hw9 hP hD hS => ?_)
            subst hw9
            have hP : va_P G.1 CL (MW G mh md nr nc pL pG pB pk bf hi sv ch hs inp ty er wy wd rf lt ln th tr mv fo sp wr td) _ := hP
            have hD : va_D A (MW G mh md nr nc pL pG pB pk bf hi sv ch hs inp ty er wy wd rf lt ln th tr mv fo sp wr td) := hD
            refine n_cmp_ge (tgt := 72) hx hb dX5_ranked_21 (by decide) (by omega) (by omega) (fun c21 => ?_) (fun c21 => ?_)
            · skip
              have hbf : n = bfN nr nc pL v := by rw [hn2, bfN, show o = nr + nc by omega]
              refine lv_iload_n hx hb dX5_ranked_72 rfl (lv_at hl 1 rfl) ?_
              refine lv_iload_n hx hb dX5_ranked_73 rfl (lv_at hl 3 rfl) ?_
              refine lv_icmp_ne (tgt := 83) hx hb dX5_ranked_74 (by decide) (fun c74 => ?_) (fun c74 => ?_)
              · skip
                refine lv_iinc (v := nI (v + 1)) (lv' := [(2, .int (nI (v + 1))), (4, .int (nI o)), (3, .int (nI n)), (0, .ref mh), (1, .int pa)]) hx hb dX5_ranked_83 hl (k := 4) rfl (nI_add _ _) (by decide) rfl (fun ls hl => ?_)
                refine lv_goto (tgt := 2) hx hb dX5_ranked_86 (by decide) ?_
                exact ih2 (v + 1) (by omega) (by omega) (fx_up hr9 (decide_eq_false (by rw [← hbf]; exact c74))) _ _ _ hP hD hS (lv_sub hl [3, 4, 0] rfl)
              · skip
                have hrk : rkN nr nc pL pa = v := fx_lt (by omega) hr9 (decide_eq_true (by rw [← hbf]; exact c74))
                refine lv_aload_n hx hb dX5_ranked_77 rfl (lv_at hl 2 rfl) ?_
                refine lv_iload_n hx hb dX5_ranked_78 rfl (lv_at hl 4 rfl) ?_
                refine callVi (As := [.int (nI v)]) (rest := []) (wc := (MW G mh md nr nc pL pG pB pk bf hi sv ch hs inp ty er wy wd rf lt ln th tr mv fo sp wr td)) (wr := ([] : va_W)) ⟨hx, hb, hml, hown, hts⟩ (m_X5_done l G mh md nr nc pL pG pB pk bf hi sv ch hs inp ty er wy wd rf lt ln th tr mv fo sp wr td (nI v) ) (cwV 1 hts (lw_V q1821 q1823 qs39 q105 q1824) rfl rfl rfl (by decide +kernel) ⟨Nat.le_of_ble_eq_true rfl, Nat.le_of_ble_eq_true rfl⟩) hK hZ hA hP hD hS [0, 1, 2, 3, 4, 5, 6, 7, 8, 9] [] rfl rfl (by decide) (by decide) (by decide) 0 4 rfl rfl rfl hl.1 (Nat.le_of_ble_eq_true rfl) ⟨Nat.le_of_ble_eq_true rfl, Nat.le_of_ble_eq_true rfl⟩ rfl dX5_ranked_79 (fun r9 u9 H locs hw9 hP hD hS => ?_)
                subst hw9
                have hP : va_P G.1 CL (MW G mh md nr nc pL pG pB pk bf hi sv ch hs inp ty er wy wd rf lt ln (nI 0) tr mv fo sp wr td) _ := hP
                have hD : va_D A (MW G mh md nr nc pL pG pB pk bf hi sv ch hs inp ty er wy wd rf lt ln (nI 0) tr mv fo sp wr td) := hD
                have e_th : (nI 0) = (if (rkN nr nc pL pa) < nr + nc then nI 0 else nI 1) := (if_pos (by omega)).symm
                rw [e_th] at hP hD
                subst hQ
                exact ret_i hx hb hr hlk rf (by rw [if_pos (by omega), hrk]) hP hD hS rfl dX5_ranked_82
            · skip
              refine lv_iload_n hx hb dX5_ranked_24 rfl (lv_at hl 1 rfl) ?_
              refine lv_aload_n hx hb dX5_ranked_25 rfl (lv_at hl 2 rfl) ?_
              refine lv_iload hx hb dX5_ranked_26 (lv_at hl 0 rfl) ?_
              refine callVi (As := [.int (nI o)]) (rest := [.int (nI n)]) (wc := (MW G mh md nr nc pL pG pB pk bf hi sv ch hs inp ty er wy wd rf lt ln th tr mv fo sp wr td)) (wr := ([] : va_W)) ⟨hx, hb, hml, hown, hts⟩ (m_X5_vowels l G mh md nr nc pL pG pB pk bf hi sv ch hs inp ty er wy wd rf lt ln th tr mv fo sp wr td o (by first | assumption | omega) (by first | assumption | omega) (by first | assumption | omega)) (cwV 1 hts (lw_V q2054 q2056 qs74 q105 q2057) rfl rfl rfl (by decide +kernel) ⟨Nat.le_of_ble_eq_true rfl, Nat.le_of_ble_eq_true rfl⟩) hK hZ hA hP hD hS [0, 1, 2, 3, 4, 5, 6, 7, 8, 9] [] rfl rfl (by decide) (by decide) (by decide) 0 4 rfl rfl rfl hl.1 (Nat.le_of_ble_eq_true rfl) ⟨Nat.le_of_ble_eq_true rfl, Nat.le_of_ble_eq_true rfl⟩ rfl dX5_ranked_28 (fun r9 u9 H locs hw9 hP hD hS => ?_)
              subst hw9
              have hP : va_P G.1 CL (MW G mh md nr nc pL pG pB pk bf hi sv ch hs inp ty er wy wd rf lt ln th tr mv fo sp wr td) _ := hP
              have hD : va_D A (MW G mh md nr nc pL pG pB pk bf hi sv ch hs inp ty er wy wd rf lt ln th tr mv fo sp wr td) := hD
              refine lv_aload_n hx hb dX5_ranked_31 rfl (lv_at hl 2 rfl) ?_
              refine lv_iload_n hx hb dX5_ranked_32 rfl (lv_at hl 4 rfl) ?_
              refine callVi (As := [.int (nI v)]) (rest := [.int (nI (vwsN nr nc pL o)), .int (nI n)]) (wc := (MW G mh md nr nc pL pG pB pk bf hi sv ch hs inp ty er wy wd rf lt ln th tr mv fo sp wr td)) (wr := ([] : va_W)) ⟨hx, hb, hml, hown, hts⟩ (m_X5_vowels l G mh md nr nc pL pG pB pk bf hi sv ch hs inp ty er wy wd rf lt ln th tr mv fo sp wr td v (by first | assumption | omega) (by first | assumption | omega) (by first | assumption | omega)) (cwV 1 hts (lw_V q2054 q2056 qs74 q105 q2057) rfl rfl rfl (by decide +kernel) ⟨Nat.le_of_ble_eq_true rfl, Nat.le_of_ble_eq_true rfl⟩) hK hZ hA hP hD hS [0, 1, 2, 3, 4, 5, 6, 7, 8, 9] [] rfl rfl (by decide) (by decide) (by decide) 0 4 rfl rfl rfl hl.1 (Nat.le_of_ble_eq_true rfl) ⟨Nat.le_of_ble_eq_true rfl, Nat.le_of_ble_eq_true rfl⟩ rfl dX5_ranked_33 (fun r9 u9 H locs hw9 hP hD hS => ?_)
              subst hw9
              have hP : va_P G.1 CL (MW G mh md nr nc pL pG pB pk bf hi sv ch hs inp ty er wy wd rf lt ln th tr mv fo sp wr td) _ := hP
              have hD : va_D A (MW G mh md nr nc pL pG pB pk bf hi sv ch hs inp ty er wy wd rf lt ln th tr mv fo sp wr td) := hD
              refine n_cmp_gt (tgt := 59) hx hb dX5_ranked_36 (by decide) (by have := vws_le nr nc pL o; have := szOf_lt (line := o) hd; omega) (by have := vws_le nr nc pL v; have := szOf_lt (line := v) hd; omega) (fun c36 => ?_) (fun c36 => ?_)
              · skip
                refine lv_iconst (v := nI 1) hx hb dX5_ranked_59 (by decide) ?_
                refine lv_goto (tgt := 64) hx hb dX5_ranked_60 (by decide) ?_
                refine n_iadd hx hb dX5_ranked_64 ?_
                refine lv_istore_n (lv' := [(3, .int (nI (n + 1))), (4, .int (nI o)), (0, .ref mh), (1, .int pa), (2, .int (nI v))]) hx hb dX5_ranked_65 rfl hl (by decide) rfl (fun ls hl => ?_)
                refine lv_iinc (v := nI (o + 1)) (lv' := [(4, .int (nI (o + 1))), (3, .int (nI (n + 1))), (0, .ref mh), (1, .int pa), (2, .int (nI v))]) hx hb dX5_ranked_66 hl (k := 1) rfl (nI_add _ _) (by decide) rfl (fun ls hl => ?_)
                refine lv_goto (tgt := 15) hx hb dX5_ranked_69 (by decide) ?_
                exact ih15 (o + 1) (n + 1) (by omega) (by omega) (by rw [hn2]; exact cn_t (P := (fun o => decide (vwsN nr nc pL v < vwsN nr nc pL o ∨ (vwsN nr nc pL o = vwsN nr nc pL v ∧ o < v)))) (decide_eq_true (by first | exact Or.inl c36 | exact Or.inr ⟨c50, c56⟩))) _ _ _ hP hD hS (lv_sub hl [0, 1, 2, 3, 4] rfl)
              · skip
                refine lv_aload_n hx hb dX5_ranked_39 rfl (lv_at hl 2 rfl) ?_
                refine lv_iload hx hb dX5_ranked_40 (lv_at hl 0 rfl) ?_
                refine callVi (As := [.int (nI o)]) (rest := [.int (nI n)]) (wc := (MW G mh md nr nc pL pG pB pk bf hi sv ch hs inp ty er wy wd rf lt ln th tr mv fo sp wr td)) (wr := ([] : va_W)) ⟨hx, hb, hml, hown, hts⟩ (m_X5_vowels l G mh md nr nc pL pG pB pk bf hi sv ch hs inp ty er wy wd rf lt ln th tr mv fo sp wr td o (by first | assumption | omega) (by first | assumption | omega) (by first | assumption | omega)) (cwV 1 hts (lw_V q2054 q2056 qs74 q105 q2057) rfl rfl rfl (by decide +kernel) ⟨Nat.le_of_ble_eq_true rfl, Nat.le_of_ble_eq_true rfl⟩) hK hZ hA hP hD hS [0, 1, 2, 3, 4, 5, 6, 7, 8, 9] [] rfl rfl (by decide) (by decide) (by decide) 0 4 rfl rfl rfl hl.1 (Nat.le_of_ble_eq_true rfl) ⟨Nat.le_of_ble_eq_true rfl, Nat.le_of_ble_eq_true rfl⟩ rfl dX5_ranked_42 (fun r9 u9 H locs hw9 hP hD hS => ?_)
                subst hw9
                have hP : va_P G.1 CL (MW G mh md nr nc pL pG pB pk bf hi sv ch hs inp ty er wy wd rf lt ln th tr mv fo sp wr td) _ := hP
                have hD : va_D A (MW G mh md nr nc pL pG pB pk bf hi sv ch hs inp ty er wy wd rf lt ln th tr mv fo sp wr td) := hD
                refine lv_aload_n hx hb dX5_ranked_45 rfl (lv_at hl 2 rfl) ?_
                refine lv_iload_n hx hb dX5_ranked_46 rfl (lv_at hl 4 rfl) ?_
                refine callVi (As := [.int (nI v)]) (rest := [.int (nI (vwsN nr nc pL o)), .int (nI n)]) (wc := (MW G mh md nr nc pL pG pB pk bf hi sv ch hs inp ty er wy wd rf lt ln th tr mv fo sp wr td)) (wr := ([] : va_W)) ⟨hx, hb, hml, hown, hts⟩ (m_X5_vowels l G mh md nr nc pL pG pB pk bf hi sv ch hs inp ty er wy wd rf lt ln th tr mv fo sp wr td v (by first | assumption | omega) (by first | assumption | omega) (by first | assumption | omega)) (cwV 1 hts (lw_V q2054 q2056 qs74 q105 q2057) rfl rfl rfl (by decide +kernel) ⟨Nat.le_of_ble_eq_true rfl, Nat.le_of_ble_eq_true rfl⟩) hK hZ hA hP hD hS [0, 1, 2, 3, 4, 5, 6, 7, 8, 9] [] rfl rfl (by decide) (by decide) (by decide) 0 4 rfl rfl rfl hl.1 (Nat.le_of_ble_eq_true rfl) ⟨Nat.le_of_ble_eq_true rfl, Nat.le_of_ble_eq_true rfl⟩ rfl dX5_ranked_47 (fun r9 u9 H locs hw9 hP hD hS => ?_)
                subst hw9
                have hP : va_P G.1 CL (MW G mh md nr nc pL pG pB pk bf hi sv ch hs inp ty er wy wd rf lt ln th tr mv fo sp wr td) _ := hP
                have hD : va_D A (MW G mh md nr nc pL pG pB pk bf hi sv ch hs inp ty er wy wd rf lt ln th tr mv fo sp wr td) := hD
                refine n_cmp_ne (tgt := 63) hx hb dX5_ranked_50 (by decide) (by have := vws_le nr nc pL o; have := szOf_lt (line := o) hd; omega) (by have := vws_le nr nc pL v; have := szOf_lt (line := v) hd; omega) (fun c50 => ?_) (fun c50 => ?_)
                · skip
                  refine lv_iconst (v := nI 0) hx hb dX5_ranked_63 (by decide) ?_
                  refine n_iadd hx hb dX5_ranked_64 ?_
                  refine lv_istore_n (lv' := [(3, .int (nI (n + 0))), (4, .int (nI o)), (0, .ref mh), (1, .int pa), (2, .int (nI v))]) hx hb dX5_ranked_65 rfl hl (by decide) rfl (fun ls hl => ?_)
                  refine lv_iinc (v := nI (o + 1)) (lv' := [(4, .int (nI (o + 1))), (3, .int (nI (n + 0))), (0, .ref mh), (1, .int pa), (2, .int (nI v))]) hx hb dX5_ranked_66 hl (k := 1) rfl (nI_add _ _) (by decide) rfl (fun ls hl => ?_)
                  refine lv_goto (tgt := 15) hx hb dX5_ranked_69 (by decide) ?_
                  exact ih15 (o + 1) (n + 0) (by omega) (by omega) (by rw [hn2]; exact cn_f (P := (fun o => decide (vwsN nr nc pL v < vwsN nr nc pL o ∨ (vwsN nr nc pL o = vwsN nr nc pL v ∧ o < v)))) (decide_eq_false (by omega))) _ _ _ hP hD hS (lv_sub hl [0, 1, 2, 3, 4] rfl)
                · skip
                  refine lv_iload hx hb dX5_ranked_53 (lv_at hl 0 rfl) ?_
                  refine lv_iload_n hx hb dX5_ranked_55 rfl (lv_at hl 4 rfl) ?_
                  refine n_cmp_ge (tgt := 63) hx hb dX5_ranked_56 (by decide) (by omega) (by omega) (fun c56 => ?_) (fun c56 => ?_)
                  · skip
                    refine lv_iconst (v := nI 0) hx hb dX5_ranked_63 (by decide) ?_
                    refine n_iadd hx hb dX5_ranked_64 ?_
                    refine lv_istore_n (lv' := [(3, .int (nI (n + 0))), (4, .int (nI o)), (0, .ref mh), (1, .int pa), (2, .int (nI v))]) hx hb dX5_ranked_65 rfl hl (by decide) rfl (fun ls hl => ?_)
                    refine lv_iinc (v := nI (o + 1)) (lv' := [(4, .int (nI (o + 1))), (3, .int (nI (n + 0))), (0, .ref mh), (1, .int pa), (2, .int (nI v))]) hx hb dX5_ranked_66 hl (k := 1) rfl (nI_add _ _) (by decide) rfl (fun ls hl => ?_)
                    refine lv_goto (tgt := 15) hx hb dX5_ranked_69 (by decide) ?_
                    exact ih15 (o + 1) (n + 0) (by omega) (by omega) (by rw [hn2]; exact cn_f (P := (fun o => decide (vwsN nr nc pL v < vwsN nr nc pL o ∨ (vwsN nr nc pL o = vwsN nr nc pL v ∧ o < v)))) (decide_eq_false (by omega))) _ _ _ hP hD hS (lv_sub hl [0, 1, 2, 3, 4] rfl)
                  · skip
                    refine lv_iconst (v := nI 1) hx hb dX5_ranked_59 (by decide) ?_
                    refine lv_goto (tgt := 64) hx hb dX5_ranked_60 (by decide) ?_
                    refine n_iadd hx hb dX5_ranked_64 ?_
                    refine lv_istore_n (lv' := [(3, .int (nI (n + 1))), (4, .int (nI o)), (0, .ref mh), (1, .int pa), (2, .int (nI v))]) hx hb dX5_ranked_65 rfl hl (by decide) rfl (fun ls hl => ?_)
                    refine lv_iinc (v := nI (o + 1)) (lv' := [(4, .int (nI (o + 1))), (3, .int (nI (n + 1))), (0, .ref mh), (1, .int pa), (2, .int (nI v))]) hx hb dX5_ranked_66 hl (k := 1) rfl (nI_add _ _) (by decide) rfl (fun ls hl => ?_)
                    refine lv_goto (tgt := 15) hx hb dX5_ranked_69 (by decide) ?_
                    exact ih15 (o + 1) (n + 1) (by omega) (by omega) (by rw [hn2]; exact cn_t (P := (fun o => decide (vwsN nr nc pL v < vwsN nr nc pL o ∨ (vwsN nr nc pL o = vwsN nr nc pL v ∧ o < v)))) (decide_eq_true (by first | exact Or.inl c36 | exact Or.inr ⟨c50, c56⟩))) _ _ _ hP hD hS (lv_sub hl [0, 1, 2, 3, 4] rfl)
        exact lp15 _ 0 0 (Nat.lt_succ_self _) (by omega) rfl _ _ _ hP hD hS (lv_sub hl [0, 1, 2, 3, 4] rfl)
  exact lp2 _ 0 (Nat.lt_succ_self _) (by omega) rfl _ _ _ hP hD hS (lv_sub hl [1, 2, 0] rfl)
