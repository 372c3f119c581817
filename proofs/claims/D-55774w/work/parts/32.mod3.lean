/-! ===== what an order does: the outcome's kind, the board behind it, the answer, what is refused ===== -/
abbrev OT : Type := Nat × ZT × Int32 × Option (Int32 × Int32)
def oWy (o : OT) (wy : Int32) : Int32 := match o.2.2.2 with
  | some q => q.1
  | none => wy
def oWd (o : OT) (wd : Int32) : Int32 := match o.2.2.2 with
  | some q => q.2
  | none => wd
def oRf (o : OT) (rf : Bool) : Bool := if o.1 = 0 then rf else o.2.2.2.isSome
def cl_ (x : Int32) : Nat := x.toNatClampNeg
theorem cl_n {k : Nat} (h : k < 2147483648) : cl_ (nI k) = k := nI_clamp h
def bdL (J : Nat → Nat) (n : Nat) : Nat → Nat := fun p => if p < n then 97 + p else J p
def oBoard (J : Nat → Nat) (z : ZT) (a b : Int32) : OT := if (decide (nI 2 ≤ a ∧ a ≤ nI 3) && decide (nI 2 ≤ b ∧ b ≤ nI 3)) = true then (0, (cl_ a, cl_ b, bdL J (cl_ a * cl_ b), bdL J (cl_ a * cl_ b), fun _ => false, va_up z.2.2.2.2.2 4 (z.2.2.2.2.2 4 + 1)), nI (cl_ a * cl_ b), none) else (1, z, nI 0, none)
def oPut (z : ZT) (p c : Int32) : OT := if isIx p (z.1 * z.2.1) = true then (if decide (nI 97 ≤ c ∧ c ≤ nI 108) = true then (if z.2.2.1 (cl_ p) = cl_ c then (3, z, nI 0, some (nI 2, p)) else (0, (z.1, z.2.1, va_up z.2.2.1 (cl_ p) (cl_ c), z.2.2.2.1, z.2.2.2.2.1, z.2.2.2.2.2), nI (z.2.2.1 (cl_ p)), none)) else (2, z, nI 0, none)) else (1, z, nI 0, none)
def oGoal (z : ZT) (p c : Int32) : OT := if isIx p (z.1 * z.2.1) = true then (if (decide (nI 97 ≤ c ∧ c ≤ nI 108) || decide (c = nI 46)) = true then (if z.2.2.2.1 (cl_ p) = cl_ c then (3, z, nI 0, some (nI 2, p)) else (0, (z.1, z.2.1, z.2.2.1, va_up z.2.2.2.1 (cl_ p) (cl_ c), z.2.2.2.2.1, z.2.2.2.2.2), nI (z.2.2.2.1 (cl_ p)), none)) else (2, z, nI 0, none)) else (1, z, nI 0, none)
def turnK (nr nc : Nat) (L K : Nat → Nat) (k : Nat → Int32) (t : Nat) : Nat → Int32 := va_up (va_up k 0 (k 0 + 1)) 5 (k 5 + bI (decide (hm nr nc (tn nr nc t L) K = nr * nc) && !decide (hm nr nc L K = nr * nc)))
def oTurn (z : ZT) (t : Int32) : OT := if isIx t (2 * (z.1 + z.2.1)) = true then (if z.2.2.2.2.1 (cl_ t / 2) = true then (2, z, nI 0, some (nI 1, nI (cl_ t / 2))) else (0, (z.1, z.2.1, tn z.1 z.2.1 (cl_ t) z.2.2.1, z.2.2.2.1, z.2.2.2.2.1, turnK z.1 z.2.1 z.2.2.1 z.2.2.2.1 z.2.2.2.2.2 (cl_ t)), nI (hm z.1 z.2.1 (tn z.1 z.2.1 (cl_ t) z.2.2.1) z.2.2.2.1), none)) else (1, z, nI 0, none)
def swL (L : Nat → Nat) (a b : Nat) : Nat → Nat := va_up (va_up L a (L b)) b (L a)
def oSwap (z : ZT) (a b : Int32) : OT := if (isIx a (z.1 * z.2.1) && isIx b (z.1 * z.2.1)) = true then (if a = b then (2, z, nI 0, some (nI 3, a)) else (0, (z.1, z.2.1, swL z.2.2.1 (cl_ a) (cl_ b), z.2.2.2.1, z.2.2.2.2.1, va_up z.2.2.2.2.2 1 (z.2.2.2.2.2 1 + 1)), nI (hm z.1 z.2.1 (swL z.2.2.1 (cl_ a) (cl_ b)) z.2.2.2.1), none)) else (1, z, nI 0, none)
def oBar (z : ZT) (x : Int32) : OT := if isIx x (z.1 + z.2.1) = true then (0, (z.1, z.2.1, z.2.2.1, z.2.2.2.1, va_up z.2.2.2.2.1 (cl_ x) (!z.2.2.2.2.1 (cl_ x)), z.2.2.2.2.2), bI (!z.2.2.2.2.1 (cl_ x)), none) else (1, z, nI 0, none)
def oScr (z : ZT) (s t : Int32) : OT := if (decide (nI 0 ≤ s ∧ s ≤ nI 999) && decide (nI 1 ≤ t ∧ t ≤ nI 9)) = true then (0, (z.1, z.2.1, scLN z.1 z.2.1 z.2.2.2.2.1 (cl_ s) z.2.2.1 (cl_ t), z.2.2.2.1, z.2.2.2.2.1, va_up (va_up z.2.2.2.2.2 0 (z.2.2.2.2.2 0 + nI (scMN z.1 z.2.1 z.2.2.2.2.1 (cl_ s) (cl_ t)))) 2 (z.2.2.2.2.2 2 + 1)), nI (scMN z.1 z.2.1 z.2.2.2.2.1 (cl_ s) (cl_ t)), none) else (1, z, nI 0, none)
def rchZ (z : ZT) (d : Nat) : Bool := rch z.1 z.2.1 z.2.2.2.2.1 z.2.2.2.1 d z.2.2.1
def oStep (z : ZT) : OT := if hm z.1 z.2.1 z.2.2.1 z.2.2.2.1 = z.1 * z.2.1 then (1, z, nI 0, some (nI 5, nI (z.1 * z.2.1))) else if otN z.1 z.2.1 z.2.2.1 z.2.2.2.1 = true then (1, z, nI 0, some (nI 4, nI (z.1 * z.2.1 - hm z.1 z.2.1 z.2.2.1 z.2.2.2.1))) else if awN (rchZ z) = 4 then (2, z, nI 0, none) else (0, (z.1, z.2.1, tn z.1 z.2.1 (ftN z.1 z.2.1 z.2.2.2.2.1 z.2.2.1 z.2.2.2.1 (awN (rchZ z) - 1)) z.2.2.1, z.2.2.2.1, z.2.2.2.2.1, va_up (turnK z.1 z.2.1 z.2.2.1 z.2.2.2.1 z.2.2.2.2.2 (ftN z.1 z.2.1 z.2.2.2.2.1 z.2.2.1 z.2.2.2.1 (awN (rchZ z) - 1))) 3 (z.2.2.2.2.2 3 + 1)), nI (ftN z.1 z.2.1 z.2.2.2.2.1 z.2.2.1 z.2.2.2.1 (awN (rchZ z) - 1)), none)
theorem gZ_ext {nr nc : Nat} {L L' K K' : Nat → Nat} {B B' : Nat → Bool} {k k' : Nat → Int32} (hL : ∀ q, q < 9 → L q = L' q) (hK : ∀ q, q < 9 → K q = K' q) (hB : ∀ q, q < 6 → B q = B' q) (hk : ∀ q, q < 6 → k q = k' q) : ∀ j, j < 32 → gZ (nr, nc, L, K, B, k) j = gZ (nr, nc, L', K', B', k') j := fun j hj => by
  unfold gZ
  by_cases h0 : j = 0
  · simp [h0]
  · by_cases h1 : j = 1
    · simp [h1]
    · simp only [if_neg h0, if_neg h1]
      by_cases h2 : j < 8
      · simp only [if_pos h2]; exact hk _ (by omega)
      · by_cases h3 : j < 14
        · simp only [if_neg h2, if_pos h3]; rw [hB _ (by omega)]
        · by_cases h4 : j < 23
          · simp only [if_neg h2, if_neg h3, if_pos h4]; rw [hL _ (by omega)]
          · simp only [if_neg h2, if_neg h3, if_neg h4]; rw [hK _ (by omega)]
theorem inR_nI {a : Int32} {lo hi : Nat} (h : decide (nI lo ≤ a ∧ a ≤ nI hi) = true) (hh : hi < 2147483648) (hl : lo ≤ hi) : ∃ k, lo ≤ k ∧ k ≤ hi ∧ a = nI k := by
  have h1 := of_decide_eq_true h
  rw [Int32.le_iff_toInt_le, Int32.le_iff_toInt_le, nI_toInt (by omega), nI_toInt hh] at h1
  refine ⟨a.toInt.toNat, by omega, by omega, ?_⟩
  apply Int32.toInt_inj.mp
  rw [nI_toInt (by omega)]; omega
theorem bd_t {J : Nat → Nat} {n q : Nat} (h : q < n) : 97 + q = bdL J n q := (if_pos h).symm
theorem bd_f {n q : Nat} (h : n ≤ q) : 97 + 0 = bdL (fun _ => 97) n q := (if_neg (Nat.not_lt.mpr h)).symm
set_option maxHeartbeats 4000000 in
set_option maxRecDepth 100000 in
theorem m_X5_lays (l : Launch) (G : GG) (mh : Nat) (md : Nat → Nat) (nr : Nat) (nc : Nat) (pL : Nat → Nat) (pG : Nat → Nat) (pB : Nat → Bool) (pk : Nat → Int32) (bf : Nat → Int32) (hi : Nat → Int32) (sv : Nat → Int32) (ch : Nat) (hs : Bool) (inp : Nat → Nat) (ty : Nat) (er : Int32) (wy : Int32) (wd : Int32) (rf : Bool) (lt : Nat → Nat) (ln : Nat) (th : Int32) (tr : Nat → Nat) (mv : Nat → Nat) (fo : Int32) (sp : Nat) (wr : Bool) (td : Nat → Int32) (br : Nat) (bc : Nat) (hbr : br ≤ 3) (hbc : bc ≤ 3) : MM l G yX5_lays cX5_lays 4 none ⟨0, 0, 0, 0⟩ [.ref mh, .int (nI br), .int (nI bc)] (MW G mh md nr nc pL pG pB pk bf hi sv ch hs inp ty er wy wd rf lt ln th tr mv fo sp wr td) (Qv_ G (fun (_ : Unit) => True) (fun (_ : Unit) => (MW G mh md br bc (bdL (fun _ => 97) (br * bc)) (bdL (fun _ => 97) (br * bc)) (fun _ => false) pk bf hi sv ch hs inp ty er wy wd rf lt ln th tr mv fo sp wr td))) := by
  refine MM.of (by decide) (Nat.le_of_ble_eq_true rfl) ?_
  intro p e s m args below meth cd A C hini hA hK hZ hP hD ls hl
  generalize hQ : MQ below ((Qv_ G (fun (_ : Unit) => True) (fun (_ : Unit) => (MW G mh md br bc (bdL (fun _ => 97) (br * bc)) (bdL (fun _ => 97) (br * bc)) (fun _ => false) pk bf hi sv ch hs inp ty er wy wd rf lt ln th tr mv fo sp wr td))) A) args s (⟨0, 0, 0, 0⟩ : Room).cells (⟨0, 0, 0, 0⟩ : Room).slots A = Q
  obtain ⟨hx, hb, hr, hts, hown, hlk, hml⟩ := C
  have hown : s.vm.findClass RX5 = some m.cls := hown
  have hS : va_S A s.heap s.heap [] := va_S.rf
  have hl : lv_has ls 4 [(0, .ref mh), (1, .int (nI br)), (2, .int (nI bc))] := hl
  have hbb : br * bc ≤ 3 * 3 := Nat.mul_le_mul hbr hbc
  refine lv_aload_n hx hb dX5_lays_0 rfl (lv_at hl 0 rfl) ?_
  refine va_get (D := G.1) (ci := 4) (v := .ref (md 0)) (C := RX5) (T := TX5) (N := 21) hx hb hts in_X5 hown hK hP 0 rfl rfl 0 (by decide) (hts _ q1727) (fun _ h9 => h9) rfl dX5_lays_1 ?_
  refine lv_iconst (v := nI 0) hx hb dX5_lays_4 (by decide) ?_
  refine lv_iload_n hx hb dX5_lays_5 rfl (lv_at hl 1 rfl) ?_
  refine r_iast hx hb hK hP hD hS 1 3 rfl rfl (by omega) (by decide) dX5_lays_6 (fun H locs hP hD hS => ?_)
  rw [show va_up (gZ (nr, nc, pL, pG, pB, pk)) 0 (nI br) = (gZ (br, nc, pL, pG, pB, pk)) from gZ_s0] at hP hD
  have hP : va_P G.1 CL (MW G mh md br nc pL pG pB pk bf hi sv ch hs inp ty er wy wd rf lt ln th tr mv fo sp wr td) _ := hP
  have hD : va_D A (MW G mh md br nc pL pG pB pk bf hi sv ch hs inp ty er wy wd rf lt ln th tr mv fo sp wr td) := hD
  refine lv_aload_n hx hb dX5_lays_7 rfl (lv_at hl 0 rfl) ?_
  refine va_get (D := G.1) (ci := 4) (v := .ref (md 0)) (C := RX5) (T := TX5) (N := 21) hx hb hts in_X5 hown hK hP 0 rfl rfl 0 (by decide) (hts _ q1727) (fun _ h9 => h9) rfl dX5_lays_8 ?_
  refine lv_iconst (v := nI 1) hx hb dX5_lays_11 (by decide) ?_
  refine lv_iload_n hx hb dX5_lays_12 rfl (lv_at hl 2 rfl) ?_
  refine r_iast hx hb hK hP hD hS 1 3 rfl rfl (by omega) (by decide) dX5_lays_13 (fun H locs hP hD hS => ?_)
  rw [show va_up (gZ (br, nc, pL, pG, pB, pk)) 1 (nI bc) = (gZ (br, bc, pL, pG, pB, pk)) from gZ_s1] at hP hD
  have hP : va_P G.1 CL (MW G mh md br bc pL pG pB pk bf hi sv ch hs inp ty er wy wd rf lt ln th tr mv fo sp wr td) _ := hP
  have hD : va_D A (MW G mh md br bc pL pG pB pk bf hi sv ch hs inp ty er wy wd rf lt ln th tr mv fo sp wr td) := hD
  refine lv_iconst (v := nI 0) hx hb dX5_lays_14 (by decide) ?_
  refine lv_istore_n (lv' := [(3, .int (nI 0)), (0, .ref mh), (1, .int (nI br)), (2, .int (nI bc))]) hx hb dX5_lays_15 rfl hl (by decide) rfl (fun ls hl => ?_)
  have lp16 : ∀ (f : Nat) (i : Nat) (M1 : Nat → Nat) (M2 : Nat → Nat), 9 - i < f → (i ≤ 9) → (∀ q, q < i → M1 q = bdL (fun _ => 97) (br * bc) q) → (∀ q, q < i → M2 q = bdL (fun _ => 97) (br * bc) q) → ∀ (H : Heap) (locs : List Loc) (ls : Array Slot), va_P G.1 CL (MW G mh md br bc M1 M2 pB pk bf hi sv ch hs inp ty er wy wd rf lt ln th tr mv fo sp wr td) H → va_D A (MW G mh md br bc M1 M2 pB pk bf hi sv ch hs inp ty er wy wd rf lt ln th tr mv fo sp wr td) → va_S A s.heap H locs → lv_has ls 4 [(3, .int (nI i)), (0, .ref mh), (1, .int (nI br)), (2, .int (nI bc))] → W p l e (⟨0, 0, 0, 0⟩ : Room) s m args below meth cd H locs 0 0 Q (F0 m 16 ls []) := by
    intro f
    induction f with
    | zero => intro i M1 M2 hf; exact absurd hf (Nat.not_lt_zero _)
    | succ f ih16 =>
      intro i M1 M2 hf hi9 h1 h2 H locs ls hP hD hS hl
      refine lv_iload_n hx hb dX5_lays_16 rfl (lv_at hl 0 rfl) ?_
      refine lv_bipush (v := nI 9) hx hb dX5_lays_17 (by decide) ?_
      refine n_cmp_ge (tgt := 70) hx hb dX5_lays_19 (by decide) (by omega) (by omega) (fun c19 => ?_) (fun c19 => ?_)
      · skip
        refine lv_iconst (v := nI 0) hx hb dX5_lays_70 (by decide) ?_
        refine lv_istore_n (lv' := [(3, .int (nI 0)), (0, .ref mh), (1, .int (nI br)), (2, .int (nI bc))]) hx hb dX5_lays_71 rfl hl (by decide) rfl (fun ls hl => ?_)
        have lp72 : ∀ (f : Nat) (i : Nat) (M3 : Nat → Bool), 6 - i < f → (i ≤ 6) → (∀ q, q < i → M3 q = false) → ∀ (H : Heap) (locs : List Loc) (ls : Array Slot), va_P G.1 CL (MW G mh md br bc M1 M2 M3 pk bf hi sv ch hs inp ty er wy wd rf lt ln th tr mv fo sp wr td) H → va_D A (MW G mh md br bc M1 M2 M3 pk bf hi sv ch hs inp ty er wy wd rf lt ln th tr mv fo sp wr td) → va_S A s.heap H locs → lv_has ls 4 [(3, .int (nI i)), (0, .ref mh), (1, .int (nI br)), (2, .int (nI bc))] → W p l e (⟨0, 0, 0, 0⟩ : Room) s m args below meth cd H locs 0 0 Q (F0 m 72 ls []) := by
          intro f
          induction f with
          | zero => intro i M3 hf; exact absurd hf (Nat.not_lt_zero _)
          | succ f ih72 =>
            intro i M3 hf hi8 h3 H locs ls hP hD hS hl
            refine lv_iload_n hx hb dX5_lays_72 rfl (lv_at hl 0 rfl) ?_
            refine lv_bipush (v := nI 6) hx hb dX5_lays_73 (by decide) ?_
            refine n_cmp_ge (tgt := 94) hx hb dX5_lays_75 (by decide) (by omega) (by omega) (fun c75 => ?_) (fun c75 => ?_)
            · skip
              obtain ⟨hP, hD⟩ := say_i (gZ (br, bc, (bdL (fun _ => 97) (br * bc)), (bdL (fun _ => 97) (br * bc)), (fun _ => false), pk)) hP hD 1 rfl (gZ_ext (fun q hq => h1 q (by omega)) (fun q hq => h2 q (by omega)) (fun q hq => h3 q (by omega)) (fun q hq => rfl))
              have hP : va_P G.1 CL (MW G mh md br bc (bdL (fun _ => 97) (br * bc)) (bdL (fun _ => 97) (br * bc)) (fun _ => false) pk bf hi sv ch hs inp ty er wy wd rf lt ln th tr mv fo sp wr td) _ := hP
              have hD : va_D A (MW G mh md br bc (bdL (fun _ => 97) (br * bc)) (bdL (fun _ => 97) (br * bc)) (fun _ => false) pk bf hi sv ch hs inp ty er wy wd rf lt ln th tr mv fo sp wr td) := hD
              subst hQ
              exact ret_v hx hb hr hlk () trivial hP hD hS dX5_lays_94
            · skip
              refine lv_aload_n hx hb dX5_lays_78 rfl (lv_at hl 1 rfl) ?_
              refine va_get (D := G.1) (ci := 4) (v := .ref (md 0)) (C := RX5) (T := TX5) (N := 21) hx hb hts in_X5 hown hK hP 0 rfl rfl 0 (by decide) (hts _ q1727) (fun _ h9 => h9) rfl dX5_lays_79 ?_
              refine lv_bipush (v := nI 8) hx hb dX5_lays_82 (by decide) ?_
              refine lv_iload_n hx hb dX5_lays_84 rfl (lv_at hl 0 rfl) ?_
              refine n_iadd hx hb dX5_lays_85 ?_
              refine lv_iconst (v := nI 0) hx hb dX5_lays_86 (by decide) ?_
              refine r_iast hx hb hK hP hD hS 1 3 rfl rfl (by omega) (by decide) dX5_lays_87 (fun H locs hP hD hS => ?_)
              rw [show va_up (gZ (br, bc, M1, M2, M3, pk)) (8 + i) (nI 0) = (gZ (br, bc, M1, M2, (va_up M3 i false), pk)) from (gZ_sb (b := false) (by omega))] at hP hD
              have hP : va_P G.1 CL (MW G mh md br bc M1 M2 (va_up M3 i false) pk bf hi sv ch hs inp ty er wy wd rf lt ln th tr mv fo sp wr td) _ := hP
              have hD : va_D A (MW G mh md br bc M1 M2 (va_up M3 i false) pk bf hi sv ch hs inp ty er wy wd rf lt ln th tr mv fo sp wr td) := hD
              refine lv_iinc (v := nI (i + 1)) (lv' := [(3, .int (nI (i + 1))), (0, .ref mh), (1, .int (nI br)), (2, .int (nI bc))]) hx hb dX5_lays_88 hl (k := 0) rfl (nI_add _ _) (by decide) rfl (fun ls hl => ?_)
              refine lv_goto (tgt := 72) hx hb dX5_lays_91 (by decide) ?_
              exact ih72 (i + 1) (va_up M3 i false) (by omega) (by omega) (fun q hq => by unfold va_up; split; rfl; exact h3 q (by omega)) _ _ _ hP hD hS (lv_sub hl [0, 1, 2, 3] rfl)
        exact lp72 _ 0 pB (Nat.lt_succ_self _) (by omega) (fun q hq => absurd hq (Nat.not_lt_zero _)) _ _ _ hP hD hS (lv_sub hl [0, 1, 2, 3] rfl)
      · skip
        refine lv_aload_n hx hb dX5_lays_22 rfl (lv_at hl 1 rfl) ?_
        refine va_get (D := G.1) (ci := 4) (v := .ref (md 0)) (C := RX5) (T := TX5) (N := 21) hx hb hts in_X5 hown hK hP 0 rfl rfl 0 (by decide) (hts _ q1727) (fun _ h9 => h9) rfl dX5_lays_23 ?_
        refine lv_bipush (v := nI 14) hx hb dX5_lays_26 (by decide) ?_
        refine lv_iload_n hx hb dX5_lays_28 rfl (lv_at hl 0 rfl) ?_
        refine n_iadd hx hb dX5_lays_29 ?_
        refine lv_iload_n hx hb dX5_lays_30 rfl (lv_at hl 0 rfl) ?_
        refine lv_iload_n hx hb dX5_lays_31 rfl (lv_at hl 2 rfl) ?_
        refine lv_iload_n hx hb dX5_lays_32 rfl (lv_at hl 3 rfl) ?_
        refine n_imul hx hb dX5_lays_33 ?_
        refine n_cmp_ge (tgt := 41) hx hb dX5_lays_34 (by decide) (by omega) (by omega) (fun c34 => ?_) (fun c34 => ?_)
        · skip
          refine lv_iconst (v := nI 0) hx hb dX5_lays_41 (by decide) ?_
          refine r_iast hx hb hK hP hD hS 1 3 rfl rfl (by omega) (by decide) dX5_lays_42 (fun H locs hP hD hS => ?_)
          rw [show va_up (gZ (br, bc, M1, M2, pB, pk)) (14 + i) (nI 0) = (gZ (br, bc, (va_up M1 i (97 + 0)), M2, pB, pk)) from (gZ_sc (by omega))] at hP hD
          have hP : va_P G.1 CL (MW G mh md br bc (va_up M1 i (97 + 0)) M2 pB pk bf hi sv ch hs inp ty er wy wd rf lt ln th tr mv fo sp wr td) _ := hP
          have hD : va_D A (MW G mh md br bc (va_up M1 i (97 + 0)) M2 pB pk bf hi sv ch hs inp ty er wy wd rf lt ln th tr mv fo sp wr td) := hD
          refine lv_aload_n hx hb dX5_lays_43 rfl (lv_at hl 1 rfl) ?_
          refine va_get (D := G.1) (ci := 4) (v := .ref (md 0)) (C := RX5) (T := TX5) (N := 21) hx hb hts in_X5 hown hK hP 0 rfl rfl 0 (by decide) (hts _ q1727) (fun _ h9 => h9) rfl dX5_lays_44 ?_
          refine lv_bipush (v := nI 23) hx hb dX5_lays_47 (by decide) ?_
          refine lv_iload_n hx hb dX5_lays_49 rfl (lv_at hl 0 rfl) ?_
          refine n_iadd hx hb dX5_lays_50 ?_
          refine lv_iload_n hx hb dX5_lays_51 rfl (lv_at hl 0 rfl) ?_
          refine lv_iload_n hx hb dX5_lays_52 rfl (lv_at hl 2 rfl) ?_
          refine lv_iload_n hx hb dX5_lays_53 rfl (lv_at hl 3 rfl) ?_
          refine n_imul hx hb dX5_lays_54 ?_
          refine n_cmp_ge (tgt := 62) hx hb dX5_lays_55 (by decide) (by omega) (by omega) (fun c55 => ?_) (fun c55 => ?_)
          · skip
            refine lv_iconst (v := nI 0) hx hb dX5_lays_62 (by decide) ?_
            refine r_iast hx hb hK hP hD hS 1 3 rfl rfl (by omega) (by decide) dX5_lays_63 (fun H locs hP hD hS => ?_)
            rw [show va_up (gZ (br, bc, (va_up M1 i (97 + 0)), M2, pB, pk)) (23 + i) (nI 0) = (gZ (br, bc, (va_up M1 i (97 + 0)), (va_up M2 i (97 + 0)), pB, pk)) from (gZ_sg (by omega) (gk_n _))] at hP hD
            have hP : va_P G.1 CL (MW G mh md br bc (va_up M1 i (97 + 0)) (va_up M2 i (97 + 0)) pB pk bf hi sv ch hs inp ty er wy wd rf lt ln th tr mv fo sp wr td) _ := hP
            have hD : va_D A (MW G mh md br bc (va_up M1 i (97 + 0)) (va_up M2 i (97 + 0)) pB pk bf hi sv ch hs inp ty er wy wd rf lt ln th tr mv fo sp wr td) := hD
            refine lv_iinc (v := nI (i + 1)) (lv' := [(3, .int (nI (i + 1))), (0, .ref mh), (1, .int (nI br)), (2, .int (nI bc))]) hx hb dX5_lays_64 hl (k := 0) rfl (nI_add _ _) (by decide) rfl (fun ls hl => ?_)
            refine lv_goto (tgt := 16) hx hb dX5_lays_67 (by decide) ?_
            exact ih16 (i + 1) (va_up M1 i (97 + 0)) (va_up M2 i (97 + 0)) (by omega) (by omega) (fun q hq => by unfold va_up; by_cases z : q = i <;> simp only [z, if_true, if_false] <;> first | exact bd_t c34 | exact bd_f c34 | exact h1 q (by omega)) (fun q hq => by unfold va_up; by_cases z : q = i <;> simp only [z, if_true, if_false] <;> first | exact bd_t c55 | exact bd_f c55 | exact h2 q (by omega)) _ _ _ hP hD hS (lv_sub hl [0, 1, 2, 3] rfl)
          · skip
            refine lv_iload_n hx hb dX5_lays_58 rfl (lv_at hl 0 rfl) ?_
            refine lv_goto (tgt := 63) hx hb dX5_lays_59 (by decide) ?_
            refine r_iast hx hb hK hP hD hS 1 3 rfl rfl (by omega) (by decide) dX5_lays_63 (fun H locs hP hD hS => ?_)
            rw [show va_up (gZ (br, bc, (va_up M1 i (97 + 0)), M2, pB, pk)) (23 + i) (nI i) = (gZ (br, bc, (va_up M1 i (97 + 0)), (va_up M2 i (97 + i)), pB, pk)) from (gZ_sg (by omega) (gk_n _))] at hP hD
            have hP : va_P G.1 CL (MW G mh md br bc (va_up M1 i (97 + 0)) (va_up M2 i (97 + i)) pB pk bf hi sv ch hs inp ty er wy wd rf lt ln th tr mv fo sp wr td) _ := hP
            have hD : va_D A (MW G mh md br bc (va_up M1 i (97 + 0)) (va_up M2 i (97 + i)) pB pk bf hi sv ch hs inp ty er wy wd rf lt ln th tr mv fo sp wr td) := hD
            refine lv_iinc (v := nI (i + 1)) (lv' := [(3, .int (nI (i + 1))), (0, .ref mh), (1, .int (nI br)), (2, .int (nI bc))]) hx hb dX5_lays_64 hl (k := 0) rfl (nI_add _ _) (by decide) rfl (fun ls hl => ?_)
            refine lv_goto (tgt := 16) hx hb dX5_lays_67 (by decide) ?_
            exact ih16 (i + 1) (va_up M1 i (97 + 0)) (va_up M2 i (97 + i)) (by omega) (by omega) (fun q hq => by unfold va_up; by_cases z : q = i <;> simp only [z, if_true, if_false] <;> first | exact bd_t c34 | exact bd_f c34 | exact h1 q (by omega)) (fun q hq => by unfold va_up; by_cases z : q = i <;> simp only [z, if_true, if_false] <;> first | exact bd_t c55 | exact bd_f c55 | exact h2 q (by omega)) _ _ _ hP hD hS (lv_sub hl [0, 1, 2, 3] rfl)
        · skip
          refine lv_iload_n hx hb dX5_lays_37 rfl (lv_at hl 0 rfl) ?_
          refine lv_goto (tgt := 42) hx hb dX5_lays_38 (by decide) ?_
          refine r_iast hx hb hK hP hD hS 1 3 rfl rfl (by omega) (by decide) dX5_lays_42 (fun H locs hP hD hS => ?_)
          rw [show va_up (gZ (br, bc, M1, M2, pB, pk)) (14 + i) (nI i) = (gZ (br, bc, (va_up M1 i (97 + i)), M2, pB, pk)) from (gZ_sc (by omega))] at hP hD
          have hP : va_P G.1 CL (MW G mh md br bc (va_up M1 i (97 + i)) M2 pB pk bf hi sv ch hs inp ty er wy wd rf lt ln th tr mv fo sp wr td) _ := hP
          have hD : va_D A (MW G mh md br bc (va_up M1 i (97 + i)) M2 pB pk bf hi sv ch hs inp ty er wy wd rf lt ln th tr mv fo sp wr td) := hD
          refine lv_aload_n hx hb dX5_lays_43 rfl (lv_at hl 1 rfl) ?_
          refine va_get (D := G.1) (ci := 4) (v := .ref (md 0)) (C := RX5) (T := TX5) (N := 21) hx hb hts in_X5 hown hK hP 0 rfl rfl 0 (by decide) (hts _ q1727) (fun _ h9 => h9) rfl dX5_lays_44 ?_
          refine lv_bipush (v := nI 23) hx hb dX5_lays_47 (by decide) ?_
          refine lv_iload_n hx hb dX5_lays_49 rfl (lv_at hl 0 rfl) ?_
          refine n_iadd hx hb dX5_lays_50 ?_
          refine lv_iload_n hx hb dX5_lays_51 rfl (lv_at hl 0 rfl) ?_
          refine lv_iload_n hx hb dX5_lays_52 rfl (lv_at hl 2 rfl) ?_
          refine lv_iload_n hx hb dX5_lays_53 rfl (lv_at hl 3 rfl) ?_
          refine n_imul hx hb dX5_lays_54 ?_
          refine n_cmp_ge (tgt := 62) hx hb dX5_lays_55 (by decide) (by omega) (by omega) (fun c55 => ?_) (fun c55 => ?_)
          · skip
            refine lv_iconst (v := nI 0) hx hb dX5_lays_62 (by decide) ?_
            refine r_iast hx hb hK hP hD hS 1 3 rfl rfl (by omega) (by decide) dX5_lays_63 (fun H locs hP hD hS => ?_)
            rw [show va_up (gZ (br, bc, (va_up M1 i (97 + i)), M2, pB, pk)) (23 + i) (nI 0) = (gZ (br, bc, (va_up M1 i (97 + i)), (va_up M2 i (97 + 0)), pB, pk)) from (gZ_sg (by omega) (gk_n _))] at hP hD
            have hP : va_P G.1 CL (MW G mh md br bc (va_up M1 i (97 + i)) (va_up M2 i (97 + 0)) pB pk bf hi sv ch hs inp ty er wy wd rf lt ln th tr mv fo sp wr td) _ := hP
            have hD : va_D A (MW G mh md br bc (va_up M1 i (97 + i)) (va_up M2 i (97 + 0)) pB pk bf hi sv ch hs inp ty er wy wd rf lt ln th tr mv fo sp wr td) := hD
            refine lv_iinc (v := nI (i + 1)) (lv' := [(3, .int (nI (i + 1))), (0, .ref mh), (1, .int (nI br)), (2, .int (nI bc))]) hx hb dX5_lays_64 hl (k := 0) rfl (nI_add _ _) (by decide) rfl (fun ls hl => ?_)
            refine lv_goto (tgt := 16) hx hb dX5_lays_67 (by decide) ?_
            exact ih16 (i + 1) (va_up M1 i (97 + i)) (va_up M2 i (97 + 0)) (by omega) (by omega) (fun q hq => by unfold va_up; by_cases z : q = i <;> simp only [z, if_true, if_false] <;> first | exact bd_t c34 | exact bd_f c34 | exact h1 q (by omega)) (fun q hq => by unfold va_up; by_cases z : q = i <;> simp only [z, if_true, if_false] <;> first | exact bd_t c55 | exact bd_f c55 | exact h2 q (by omega)) _ _ _ hP hD hS (lv_sub hl [0, 1, 2, 3] rfl)
          · skip
            refine lv_iload_n hx hb dX5_lays_58 rfl (lv_at hl 0 rfl) ?_
            refine lv_goto (tgt := 63) hx hb dX5_lays_59 (by decide) ?_
            refine r_iast hx hb hK hP hD hS 1 3 rfl rfl (by omega) (by decide) dX5_lays_63 (fun H locs hP hD hS => ?_)
            rw [show va_up (gZ (br, bc, (va_up M1 i (97 + i)), M2, pB, pk)) (23 + i) (nI i) = (gZ (br, bc, (va_up M1 i (97 + i)), (va_up M2 i (97 + i)), pB, pk)) from (gZ_sg (by omega) (gk_n _))] at hP hD
            have hP : va_P G.1 CL (MW G mh md br bc (va_up M1 i (97 + i)) (va_up M2 i (97 + i)) pB pk bf hi sv ch hs inp ty er wy wd rf lt ln th tr mv fo sp wr td) _ := hP
            have hD : va_D A (MW G mh md br bc (va_up M1 i (97 + i)) (va_up M2 i (97 + i)) pB pk bf hi sv ch hs inp ty er wy wd rf lt ln th tr mv fo sp wr td) := hD
            refine lv_iinc (v := nI (i + 1)) (lv' := [(3, .int (nI (i + 1))), (0, .ref mh), (1, .int (nI br)), (2, .int (nI bc))]) hx hb dX5_lays_64 hl (k := 0) rfl (nI_add _ _) (by decide) rfl (fun ls hl => ?_)
            refine lv_goto (tgt := 16) hx hb dX5_lays_67 (by decide) ?_
            exact ih16 (i + 1) (va_up M1 i (97 + i)) (va_up M2 i (97 + i)) (by omega) (by omega) (fun q hq => by unfold va_up; by_cases z : q = i <;> simp only [z, if_true, if_false] <;> first | exact bd_t c34 | exact bd_f c34 | exact h1 q (by omega)) (fun q hq => by unfold va_up; by_cases z : q = i <;> simp only [z, if_true, if_false] <;> first | exact bd_t c55 | exact bd_f c55 | exact h2 q (by omega)) _ _ _ hP hD hS (lv_sub hl [0, 1, 2, 3] rfl)
  exact lp16 _ 0 pL pG (Nat.lt_succ_self _) (by omega) (fun q hq => absurd hq (Nat.not_lt_zero _)) (fun q hq => absurd hq (Nat.not_lt_zero _)) _ _ _ hP hD hS (lv_sub hl [0, 1, 2, 3] rfl)
set_option maxHeartbeats 4000000 in
set_option maxRecDepth 100000 in
theorem m_X5_makes (l : Launch) (G : GG) (mh : Nat) (md : Nat → Nat) (nr : Nat) (nc : Nat) (pL : Nat → Nat) (pG : Nat → Nat) (pB : Nat → Bool) (pk : Nat → Int32) (bf : Nat → Int32) (hi : Nat → Int32) (sv : Nat → Int32) (ch : Nat) (hs : Bool) (inp : Nat → Nat) (ty : Nat) (er : Int32) (wy : Int32) (wd : Int32) (rf : Bool) (lt : Nat → Nat) (ln : Nat) (th : Int32) (tr : Nat → Nat) (mv : Nat → Nat) (fo : Int32) (sp : Nat) (wr : Bool) (td : Nat → Int32) (tt : Nat) (hd : 2 ≤ nr ∧ nr ≤ 3 ∧ 2 ≤ nc ∧ nc ≤ 3) (ht0 : tt < 2 * (nr + nc)) (hLR : ∀ q, q < nr * nc → 97 ≤ pL q ∧ pL q ≤ 108) (hKR : ∀ q, q < nr * nc → pG q = 46 ∨ (97 ≤ pG q ∧ pG q ≤ 108)) : MM l G yX5_makes cX5_makes 2 (some .int) ⟨2, 0, 0, 48⟩ [.ref mh, .int (nI tt)] (MW G mh md nr nc pL pG pB pk bf hi sv ch hs inp ty er wy wd rf lt ln th tr mv fo sp wr td) (Qi_ G (fun (r : Int32) (u : (Nat → Nat) × (Nat → Nat)) => (r = nI (hm nr nc (tn nr nc tt pL) pG)) ∧ (∀ q, q < nr * nc → u.1 q = tn nr nc tt pL q - 97)) (fun (u : (Nat → Nat) × (Nat → Nat)) => (MW G mh md nr nc (tn nr nc tt pL) pG pB (va_up pk 0 (pk 0 + 1)) bf hi sv ch hs inp ty er wy wd rf lt ln th u.1 u.2 fo sp wr td))) := by
  refine MM.of (by decide) (Nat.le_of_ble_eq_true rfl) ?_
  intro p e s m args below meth cd A C hini hA hK hZ hP hD ls hl
  generalize hQ : MQ below ((Qi_ G (fun (r : Int32) (u : (Nat → Nat) × (Nat → Nat)) => (r = nI (hm nr nc (tn nr nc tt pL) pG)) ∧ (∀ q, q < nr * nc → u.1 q = tn nr nc tt pL q - 97)) (fun (u : (Nat → Nat) × (Nat → Nat)) => (MW G mh md nr nc (tn nr nc tt pL) pG pB (va_up pk 0 (pk 0 + 1)) bf hi sv ch hs inp ty er wy wd rf lt ln th u.1 u.2 fo sp wr td))) A) args s (⟨2, 0, 0, 48⟩ : Room).cells (⟨2, 0, 0, 48⟩ : Room).slots A = Q
  obtain ⟨hx, hb, hr, hts, hown, hlk, hml⟩ := C
  have hown : s.vm.findClass RX5 = some m.cls := hown
  have hS : va_S A s.heap s.heap [] := va_S.rf
  have hl : lv_has ls 2 [(0, .ref mh), (1, .int (nI tt))] := hl
  have hmu := dm_mul hd
  refine lv_aload_n hx hb dX5_makes_0 rfl (lv_at hl 0 rfl) ?_
  refine callVv (As := []) (rest := []) (wc := (MW G mh md nr nc pL pG pB pk bf hi sv ch hs inp ty er wy wd rf lt ln th tr mv fo sp wr td)) (wr := ([] : va_W)) ⟨hx, hb, hml, hown, hts⟩ (m_X5_tries l G mh md nr nc pL pG pB pk bf hi sv ch hs inp ty er wy wd rf lt ln th tr mv fo sp wr td (by first | assumption | omega) (by first | assumption | omega)) (cwV 0 hts (lw_V q1891 q1893 qs52 q105 q1894) rfl rfl rfl (by decide +kernel) ⟨Nat.le_of_ble_eq_true rfl, Nat.le_of_ble_eq_true rfl⟩) hK hZ hA hP hD hS [0, 1, 2, 3, 4, 5, 6, 7, 8, 9] [] rfl rfl (by decide) (by decide) (by decide) 0 4 rfl rfl rfl hl.1 (Nat.le_of_ble_eq_true rfl) ⟨Nat.le_of_ble_eq_true rfl, Nat.le_of_ble_eq_true rfl⟩ rfl dX5_makes_1 (fun u9 H locs hw9 hP hD hS => ?_)
  obtain ⟨tr1_1, e9⟩ : ∃ z, z = u9 := ⟨_, rfl⟩
  subst e9
  have hw1 : ∀ q, q < nr * nc → tr1_1 q = pL q - 97 := hw9
  have hP : va_P G.1 CL (MW G mh md nr nc pL pG pB pk bf hi sv ch hs inp ty er wy wd rf lt ln th tr1_1 mv fo sp wr td) _ := hP
  have hD : va_D A (MW G mh md nr nc pL pG pB pk bf hi sv ch hs inp ty er wy wd rf lt ln th tr1_1 mv fo sp wr td) := hD
  refine lv_aload_n hx hb dX5_makes_4 rfl (lv_at hl 0 rfl) ?_
  refine lv_iload_n hx hb dX5_makes_5 rfl (lv_at hl 1 rfl) ?_
  refine callVv (As := [.int (nI tt)]) (rest := []) (wc := (MW G mh md nr nc pL pG pB pk bf hi sv ch hs inp ty er wy wd rf lt ln th tr1_1 mv fo sp wr td)) (wr := ([] : va_W)) ⟨hx, hb, hml, hown, hts⟩ (m_X5_turnsTried l G mh md nr nc pL pG pB pk bf hi sv ch hs inp ty er wy wd rf lt ln th tr1_1 mv fo sp wr td tt pL (by first | assumption | omega) (by first | assumption | omega) hw1) (cwV 1 hts (lw_V q1903 q1905 qs55 q105 q1906) rfl rfl rfl (by decide +kernel) ⟨Nat.le_of_ble_eq_true rfl, Nat.le_of_ble_eq_true rfl⟩) hK hZ hA hP hD hS [0, 1, 2, 3, 4, 5, 6, 7, 8, 9] [] rfl rfl (by decide) (by decide) (by decide) 0 4 rfl rfl rfl hl.1 (Nat.le_of_ble_eq_true rfl) ⟨Nat.le_of_ble_eq_true rfl, Nat.le_of_ble_eq_true rfl⟩ rfl dX5_makes_6 (fun u9 H locs hw9 hP hD hS => ?_)
  obtain ⟨tr1_2, mv1_2⟩ := u9
  have hw6 : ∀ q, q < nr * nc → tr1_2 q = tn nr nc tt pL q - 97 := hw9
  have hP : va_P G.1 CL (MW G mh md nr nc pL pG pB pk bf hi sv ch hs inp ty er wy wd rf lt ln th tr1_2 mv1_2 fo sp wr td) _ := hP
  have hD : va_D A (MW G mh md nr nc pL pG pB pk bf hi sv ch hs inp ty er wy wd rf lt ln th tr1_2 mv1_2 fo sp wr td) := hD
  refine lv_aload_n hx hb dX5_makes_9 rfl (lv_at hl 0 rfl) ?_
  refine callVv (As := []) (rest := []) (wc := (MW G mh md nr nc pL pG pB pk bf hi sv ch hs inp ty er wy wd rf lt ln th tr1_2 mv1_2 fo sp wr td)) (wr := ([] : va_W)) ⟨hx, hb, hml, hown, hts⟩ (m_X5_takesTried l G mh md nr nc pL pG pB pk bf hi sv ch hs inp ty er wy wd rf lt ln th tr1_2 mv1_2 fo sp wr td (tn nr nc tt pL) (by first | assumption | omega) hw6 (tn_rg hd ht0 hLR)) (cwV 0 hts (lw_V q1911 q1913 qs57 q105 q1914) rfl rfl rfl (by decide +kernel) ⟨Nat.le_of_ble_eq_true rfl, Nat.le_of_ble_eq_true rfl⟩) hK hZ hA hP hD hS [0, 1, 2, 3, 4, 5, 6, 7, 8, 9] [] rfl rfl (by decide) (by decide) (by decide) 0 4 rfl rfl rfl hl.1 (Nat.le_of_ble_eq_true rfl) ⟨Nat.le_of_ble_eq_true rfl, Nat.le_of_ble_eq_true rfl⟩ rfl dX5_makes_10 (fun u9 H locs hw9 hP hD hS => ?_)
  obtain ⟨L1_3, e9⟩ : ∃ z, z = u9 := ⟨_, rfl⟩
  subst e9
  have hw10 : (∀ q, q < nr * nc → L1_3 q = (tn nr nc tt pL) q) ∧ (∀ q, nr * nc ≤ q → L1_3 q = pL q) := hw9
  have hP : va_P G.1 CL (MW G mh md nr nc L1_3 pG pB pk bf hi sv ch hs inp ty er wy wd rf lt ln th tr1_2 mv1_2 fo sp wr td) _ := hP
  have hD : va_D A (MW G mh md nr nc L1_3 pG pB pk bf hi sv ch hs inp ty er wy wd rf lt ln th tr1_2 mv1_2 fo sp wr td) := hD
  rw [show L1_3 = (tn nr nc tt pL) from (by funext q; by_cases h : q < nr * nc; (exact hw10.1 q h); (rw [hw10.2 q (by omega), tn, if_neg h]))] at hP hD
  refine lv_aload_n hx hb dX5_makes_13 rfl (lv_at hl 0 rfl) ?_
  refine va_get (D := G.1) (ci := 4) (v := .ref (md 0)) (C := RX5) (T := TX5) (N := 21) hx hb hts in_X5 hown hK hP 0 rfl rfl 0 (by decide) (hts _ q1727) (fun _ h9 => h9) rfl dX5_makes_14 ?_
  refine lv_iconst (v := nI 2) hx hb dX5_makes_17 (by decide) ?_
  refine lv_dup2_11 hx hb dX5_makes_18 rfl rfl ?_
  refine r_iald hx hb hK hP 1 3 rfl rfl (by omega) (by decide) dX5_makes_19 ?_
  refine eq_i (y := (pk 0)) rfl ?_
  refine lv_iconst (v := nI 1) hx hb dX5_makes_20 (by decide) ?_
  refine lv_iadd hx hb dX5_makes_21 ?_
  refine r_iast hx hb hK hP hD hS 1 3 rfl rfl (by omega) (by decide) dX5_makes_22 (fun H locs hP hD hS => ?_)
  rw [show va_up (gZ (nr, nc, (tn nr nc tt pL), pG, pB, pk)) 2 ((pk 0) + (nI 1)) = (gZ (nr, nc, (tn nr nc tt pL), pG, pB, (va_up pk 0 ((pk 0) + (nI 1))))) from (gZ_sk (j := 0) (by decide))] at hP hD
  have hP : va_P G.1 CL (MW G mh md nr nc (tn nr nc tt pL) pG pB (va_up pk 0 ((pk 0) + (nI 1))) bf hi sv ch hs inp ty er wy wd rf lt ln th tr1_2 mv1_2 fo sp wr td) _ := hP
  have hD : va_D A (MW G mh md nr nc (tn nr nc tt pL) pG pB (va_up pk 0 ((pk 0) + (nI 1))) bf hi sv ch hs inp ty er wy wd rf lt ln th tr1_2 mv1_2 fo sp wr td) := hD
  have hP : va_P G.1 CL (MW G mh md nr nc (tn nr nc tt pL) pG pB (va_up pk 0 (pk 0 + 1)) bf hi sv ch hs inp ty er wy wd rf lt ln th tr1_2 mv1_2 fo sp wr td) _ := hP
  have hD : va_D A (MW G mh md nr nc (tn nr nc tt pL) pG pB (va_up pk 0 (pk 0 + 1)) bf hi sv ch hs inp ty er wy wd rf lt ln th tr1_2 mv1_2 fo sp wr td) := hD
  refine lv_aload_n hx hb dX5_makes_23 rfl (lv_at hl 0 rfl) ?_
  refine callVi (As := []) (rest := []) (wc := (MW G mh md nr nc (tn nr nc tt pL) pG pB (va_up pk 0 (pk 0 + 1)) bf hi sv ch hs inp ty er wy wd rf lt ln th tr1_2 mv1_2 fo sp wr td)) (wr := ([] : va_W)) ⟨hx, hb, hml, hown, hts⟩ (m_X5_homeTried l G mh md nr nc (tn nr nc tt pL) pG pB (va_up pk 0 (pk 0 + 1)) bf hi sv ch hs inp ty er wy wd rf lt ln th tr1_2 mv1_2 fo sp wr td (tn nr nc tt pL) (by first | assumption | omega) hw6 (tn_rg hd ht0 hLR) (by first | assumption | omega)) (cwV 0 hts (lw_V q1895 q1897 qs53 q105 q1898) rfl rfl rfl (by decide +kernel) ⟨Nat.le_of_ble_eq_true rfl, Nat.le_of_ble_eq_true rfl⟩) hK hZ hA hP hD hS [0, 1, 2, 3, 4, 5, 6, 7, 8, 9] [] rfl rfl (by decide) (by decide) (by decide) 0 4 rfl rfl rfl hl.1 (Nat.le_of_ble_eq_true rfl) ⟨Nat.le_of_ble_eq_true rfl, Nat.le_of_ble_eq_true rfl⟩ rfl dX5_makes_24 (fun r9 u9 H locs hw9 hP hD hS => ?_)
  subst hw9
  have hP : va_P G.1 CL (MW G mh md nr nc (tn nr nc tt pL) pG pB (va_up pk 0 (pk 0 + 1)) bf hi sv ch hs inp ty er wy wd rf lt ln th tr1_2 mv1_2 fo sp wr td) _ := hP
  have hD : va_D A (MW G mh md nr nc (tn nr nc tt pL) pG pB (va_up pk 0 (pk 0 + 1)) bf hi sv ch hs inp ty er wy wd rf lt ln th tr1_2 mv1_2 fo sp wr td) := hD
  subst hQ
  exact ret_i hx hb hr hlk (⟨tr1_2, mv1_2⟩) ⟨rfl, hw6⟩ hP hD hS rfl dX5_makes_27
set_option maxHeartbeats 4000000 in
set_option maxRecDepth 100000 in
theorem m_X5_makesByHand (l : Launch) (G : GG) (mh : Nat) (md : Nat → Nat) (nr : Nat) (nc : Nat) (pL : Nat → Nat) (pG : Nat → Nat) (pB : Nat → Bool) (pk : Nat → Int32) (bf : Nat → Int32) (hi : Nat → Int32) (sv : Nat → Int32) (ch : Nat) (hs : Bool) (inp : Nat → Nat) (ty : Nat) (er : Int32) (wy : Int32) (wd : Int32) (rf : Bool) (lt : Nat → Nat) (ln : Nat) (th : Int32) (tr : Nat → Nat) (mv : Nat → Nat) (fo : Int32) (sp : Nat) (wr : Bool) (td : Nat → Int32) (tt : Nat) (hd : 2 ≤ nr ∧ nr ≤ 3 ∧ 2 ≤ nc ∧ nc ≤ 3) (ht0 : tt < 2 * (nr + nc)) (hLR : ∀ q, q < nr * nc → 97 ≤ pL q ∧ pL q ≤ 108) (hKR : ∀ q, q < nr * nc → pG q = 46 ∨ (97 ≤ pG q ∧ pG q ≤ 108)) : MM l G yX5_makesByHand cX5_makesByHand 4 (some .int) ⟨3, 0, 0, 69⟩ [.ref mh, .int (nI tt)] (MW G mh md nr nc pL pG pB pk bf hi sv ch hs inp ty er wy wd rf lt ln th tr mv fo sp wr td) (Qi_ G (fun (r : Int32) (u : (Nat → Nat) × (Nat → Nat)) => (r = nI (hm nr nc (tn nr nc tt pL) pG)) ∧ (∀ q, q < nr * nc → u.1 q = tn nr nc tt pL q - 97)) (fun (u : (Nat → Nat) × (Nat → Nat)) => (MW G mh md nr nc (tn nr nc tt pL) pG pB (turnK nr nc pL pG pk tt) bf hi sv ch hs inp ty er wy wd rf lt ln th u.1 u.2 fo sp wr td))) := by
  refine MM.of (by decide) (Nat.le_of_ble_eq_true rfl) ?_
  intro p e s m args below meth cd A C hini hA hK hZ hP hD ls hl
  generalize hQ : MQ below ((Qi_ G (fun (r : Int32) (u : (Nat → Nat) × (Nat → Nat)) => (r = nI (hm nr nc (tn nr nc tt pL) pG)) ∧ (∀ q, q < nr * nc → u.1 q = tn nr nc tt pL q - 97)) (fun (u : (Nat → Nat) × (Nat → Nat)) => (MW G mh md nr nc (tn nr nc tt pL) pG pB (turnK nr nc pL pG pk tt) bf hi sv ch hs inp ty er wy wd rf lt ln th u.1 u.2 fo sp wr td))) A) args s (⟨3, 0, 0, 69⟩ : Room).cells (⟨3, 0, 0, 69⟩ : Room).slots A = Q
  obtain ⟨hx, hb, hr, hts, hown, hlk, hml⟩ := C
  have hown : s.vm.findClass RX5 = some m.cls := hown
  have hS : va_S A s.heap s.heap [] := va_S.rf
  have hl : lv_has ls 4 [(0, .ref mh), (1, .int (nI tt))] := hl
  have hmu := dm_mul hd
  refine lv_aload_n hx hb dX5_makesByHand_0 rfl (lv_at hl 0 rfl) ?_
  refine callVi (As := []) (rest := []) (wc := (MW G mh md nr nc pL pG pB pk bf hi sv ch hs inp ty er wy wd rf lt ln th tr mv fo sp wr td)) (wr := ([] : va_W)) ⟨hx, hb, hml, hown, hts⟩ (m_X5_homes l G mh md nr nc pL pG pB pk bf hi sv ch hs inp ty er wy wd rf lt ln th tr mv fo sp wr td (by first | assumption | omega) (by first | assumption | omega) (by first | assumption | omega)) (cwV 0 hts (lw_V q1887 q1889 qs51 q105 q1890) rfl rfl rfl (by decide +kernel) ⟨Nat.le_of_ble_eq_true rfl, Nat.le_of_ble_eq_true rfl⟩) hK hZ hA hP hD hS [0, 1, 2, 3, 4, 5, 6, 7, 8, 9] [] rfl rfl (by decide) (by decide) (by decide) 0 4 rfl rfl rfl hl.1 (Nat.le_of_ble_eq_true rfl) ⟨Nat.le_of_ble_eq_true rfl, Nat.le_of_ble_eq_true rfl⟩ rfl dX5_makesByHand_1 (fun r9 u9 H locs hw9 hP hD hS => ?_)
  obtain ⟨tr1_1, e9⟩ : ∃ z, z = u9 := ⟨_, rfl⟩
  subst e9
  obtain ⟨hr9, hw1⟩ := hw9
  subst hr9
  have hw1 : ∀ q, q < nr * nc → tr1_1 q = pL q - 97 := hw1
  have hP : va_P G.1 CL (MW G mh md nr nc pL pG pB pk bf hi sv ch hs inp ty er wy wd rf lt ln th tr1_1 mv fo sp wr td) _ := hP
  have hD : va_D A (MW G mh md nr nc pL pG pB pk bf hi sv ch hs inp ty er wy wd rf lt ln th tr1_1 mv fo sp wr td) := hD
  refine lv_istore_n (lv' := [(2, .int (nI (hm nr nc pL pG))), (0, .ref mh), (1, .int (nI tt))]) hx hb dX5_makesByHand_4 rfl hl (by decide) rfl (fun ls hl => ?_)
  refine lv_aload_n hx hb dX5_makesByHand_5 rfl (lv_at hl 1 rfl) ?_
  refine lv_iload_n hx hb dX5_makesByHand_6 rfl (lv_at hl 2 rfl) ?_
  refine callVi (As := [.int (nI tt)]) (rest := []) (wc := (MW G mh md nr nc pL pG pB pk bf hi sv ch hs inp ty er wy wd rf lt ln th tr1_1 mv fo sp wr td)) (wr := ([] : va_W)) ⟨hx, hb, hml, hown, hts⟩ (m_X5_makes l G mh md nr nc pL pG pB pk bf hi sv ch hs inp ty er wy wd rf lt ln th tr1_1 mv fo sp wr td tt (by first | assumption | omega) (by first | assumption | omega) (by first | assumption | omega) (by first | assumption | omega)) (cwV 1 hts (lw_V q1899 q1901 qs54 q105 q1902) rfl rfl rfl (by decide +kernel) ⟨Nat.le_of_ble_eq_true rfl, Nat.le_of_ble_eq_true rfl⟩) hK hZ hA hP hD hS [0, 1, 2, 3, 4, 5, 6, 7, 8, 9] [] rfl rfl (by decide) (by decide) (by decide) 0 4 rfl rfl rfl hl.1 (Nat.le_of_ble_eq_true rfl) ⟨Nat.le_of_ble_eq_true rfl, Nat.le_of_ble_eq_true rfl⟩ rfl dX5_makesByHand_7 (fun r9 u9 H locs hw9 hP hD hS => ?_)
  obtain ⟨tr1_2, mv1_2⟩ := u9
  obtain ⟨hr9, hw7⟩ := hw9
  subst hr9
  have hw7 : ∀ q, q < nr * nc → tr1_2 q = tn nr nc tt pL q - 97 := hw7
  have hP : va_P G.1 CL (MW G mh md nr nc (tn nr nc tt pL) pG pB (va_up pk 0 (pk 0 + 1)) bf hi sv ch hs inp ty er wy wd rf lt ln th tr1_2 mv1_2 fo sp wr td) _ := hP
  have hD : va_D A (MW G mh md nr nc (tn nr nc tt pL) pG pB (va_up pk 0 (pk 0 + 1)) bf hi sv ch hs inp ty er wy wd rf lt ln th tr1_2 mv1_2 fo sp wr td) := hD
  refine lv_istore_n (lv' := [(3, .int (nI (hm nr nc (tn nr nc tt pL) pG))), (2, .int (nI (hm nr nc pL pG))), (0, .ref mh), (1, .int (nI tt))]) hx hb dX5_makesByHand_10 rfl hl (by decide) rfl (fun ls hl => ?_)
  refine lv_aload_n hx hb dX5_makesByHand_11 rfl (lv_at hl 2 rfl) ?_
  refine va_get (D := G.1) (ci := 4) (v := .ref (md 0)) (C := RX5) (T := TX5) (N := 21) hx hb hts in_X5 hown hK hP 0 rfl rfl 0 (by decide) (hts _ q1727) (fun _ h9 => h9) rfl dX5_makesByHand_12 ?_
  refine lv_bipush (v := nI 7) hx hb dX5_makesByHand_15 (by decide) ?_
  refine lv_dup2_11 hx hb dX5_makesByHand_17 rfl rfl ?_
  refine r_iald hx hb hK hP 1 3 rfl rfl (by omega) (by decide) dX5_makesByHand_18 ?_
  refine eq_i (y := ((va_up pk 0 (pk 0 + 1)) 5)) rfl ?_
  have hm1 := hm_le nr nc (tn nr nc tt pL) pG
  have hm2 := hm_le nr nc pL pG
  refine lv_iload_n hx hb dX5_makesByHand_19 rfl (lv_at hl 0 rfl) ?_
  refine lv_aload_n hx hb dX5_makesByHand_20 rfl (lv_at hl 2 rfl) ?_
  refine callVi (As := []) (rest := [.int (nI (hm nr nc (tn nr nc tt pL) pG)), .int ((va_up pk 0 (pk 0 + 1)) 5), .int (nI 7), .ref (md 0)]) (wc := (MW G mh md nr nc (tn nr nc tt pL) pG pB (va_up pk 0 (pk 0 + 1)) bf hi sv ch hs inp ty er wy wd rf lt ln th tr1_2 mv1_2 fo sp wr td)) (wr := ([] : va_W)) ⟨hx, hb, hml, hown, hts⟩ (m_X5_places l G mh md nr nc (tn nr nc tt pL) pG pB (va_up pk 0 (pk 0 + 1)) bf hi sv ch hs inp ty er wy wd rf lt ln th tr1_2 mv1_2 fo sp wr td ) (cwV 0 hts (lw_V q1817 q1819 qs38 q105 q1820) rfl rfl rfl (by decide +kernel) ⟨Nat.le_of_ble_eq_true rfl, Nat.le_of_ble_eq_true rfl⟩) hK hZ hA hP hD hS [0, 1, 2, 3, 4, 5, 6, 7, 8, 9] [] rfl rfl (by decide) (by decide) (by decide) 0 4 rfl rfl rfl hl.1 (Nat.le_of_ble_eq_true rfl) ⟨Nat.le_of_ble_eq_true rfl, Nat.le_of_ble_eq_true rfl⟩ rfl dX5_makesByHand_21 (fun r9 u9 H locs hw9 hP hD hS => ?_)
  subst hw9
  have hP : va_P G.1 CL (MW G mh md nr nc (tn nr nc tt pL) pG pB (va_up pk 0 (pk 0 + 1)) bf hi sv ch hs inp ty er wy wd rf lt ln th tr1_2 mv1_2 fo sp wr td) _ := hP
  have hD : va_D A (MW G mh md nr nc (tn nr nc tt pL) pG pB (va_up pk 0 (pk 0 + 1)) bf hi sv ch hs inp ty er wy wd rf lt ln th tr1_2 mv1_2 fo sp wr td) := hD
  refine n_cmp_ne (tgt := 36) hx hb dX5_makesByHand_24 (by decide) (by omega) (by omega) (fun c24 => ?_) (fun c24 => ?_)
  · skip
    refine lv_iconst (v := nI 0) hx hb dX5_makesByHand_36 (by decide) ?_
    refine lv_iadd hx hb dX5_makesByHand_37 ?_
    refine r_iast hx hb hK hP hD hS 1 3 rfl rfl (by omega) (by decide) dX5_makesByHand_38 (fun H locs hP hD hS => ?_)
    rw [show va_up (gZ (nr, nc, (tn nr nc tt pL), pG, pB, (va_up pk 0 (pk 0 + 1)))) 7 (((va_up pk 0 (pk 0 + 1)) 5) + (nI 0)) = (gZ (nr, nc, (tn nr nc tt pL), pG, pB, (va_up (va_up pk 0 (pk 0 + 1)) 5 (((va_up pk 0 (pk 0 + 1)) 5) + (nI 0))))) from (gZ_sk (j := 5) (by decide))] at hP hD
    have hP : va_P G.1 CL (MW G mh md nr nc (tn nr nc tt pL) pG pB (va_up (va_up pk 0 (pk 0 + 1)) 5 (((va_up pk 0 (pk 0 + 1)) 5) + (nI 0))) bf hi sv ch hs inp ty er wy wd rf lt ln th tr1_2 mv1_2 fo sp wr td) _ := hP
    have hD : va_D A (MW G mh md nr nc (tn nr nc tt pL) pG pB (va_up (va_up pk 0 (pk 0 + 1)) 5 (((va_up pk 0 (pk 0 + 1)) 5) + (nI 0))) bf hi sv ch hs inp ty er wy wd rf lt ln th tr1_2 mv1_2 fo sp wr td) := hD
    refine lv_iload_n hx hb dX5_makesByHand_39 rfl (lv_at hl 0 rfl) ?_
    have e_k : (va_up (va_up pk 0 (pk 0 + 1)) 5 (((va_up pk 0 (pk 0 + 1)) 5) + (nI 0))) = (turnK nr nc pL pG pk tt) := (by unfold turnK; first | (rw [decide_eq_false c24]; rfl) | (rw [decide_eq_true c24, decide_eq_true (show hm nr nc pL pG = nr * nc by omega)]; rfl))
    rw [e_k] at hP hD
    subst hQ
    exact ret_i hx hb hr hlk (⟨tr1_2, mv1_2⟩) ⟨rfl, hw7⟩ hP hD hS rfl dX5_makesByHand_40
  · skip
    refine lv_iload_n hx hb dX5_makesByHand_27 rfl (lv_at hl 1 rfl) ?_
    refine lv_iload_n hx hb dX5_makesByHand_28 rfl (lv_at hl 0 rfl) ?_
    refine n_cmp_ge (tgt := 36) hx hb dX5_makesByHand_29 (by decide) (by omega) (by omega) (fun c29 => ?_) (fun c29 => ?_)
    · skip
      refine lv_iconst (v := nI 0) hx hb dX5_makesByHand_36 (by decide) ?_
      refine lv_iadd hx hb dX5_makesByHand_37 ?_
      refine r_iast hx hb hK hP hD hS 1 3 rfl rfl (by omega) (by decide) dX5_makesByHand_38 (fun H locs hP hD hS => ?_)
      rw [show va_up (gZ (nr, nc, (tn nr nc tt pL), pG, pB, (va_up pk 0 (pk 0 + 1)))) 7 (((va_up pk 0 (pk 0 + 1)) 5) + (nI 0)) = (gZ (nr, nc, (tn nr nc tt pL), pG, pB, (va_up (va_up pk 0 (pk 0 + 1)) 5 (((va_up pk 0 (pk 0 + 1)) 5) + (nI 0))))) from (gZ_sk (j := 5) (by decide))] at hP hD
      have hP : va_P G.1 CL (MW G mh md nr nc (tn nr nc tt pL) pG pB (va_up (va_up pk 0 (pk 0 + 1)) 5 (((va_up pk 0 (pk 0 + 1)) 5) + (nI 0))) bf hi sv ch hs inp ty er wy wd rf lt ln th tr1_2 mv1_2 fo sp wr td) _ := hP
      have hD : va_D A (MW G mh md nr nc (tn nr nc tt pL) pG pB (va_up (va_up pk 0 (pk 0 + 1)) 5 (((va_up pk 0 (pk 0 + 1)) 5) + (nI 0))) bf hi sv ch hs inp ty er wy wd rf lt ln th tr1_2 mv1_2 fo sp wr td) := hD
      refine lv_iload_n hx hb dX5_makesByHand_39 rfl (lv_at hl 0 rfl) ?_
      have e_k : (va_up (va_up pk 0 (pk 0 + 1)) 5 (((va_up pk 0 (pk 0 + 1)) 5) + (nI 0))) = (turnK nr nc pL pG pk tt) := (by unfold turnK; first | (rw [decide_eq_false c24]; rfl) | (rw [decide_eq_true c24, decide_eq_true (show hm nr nc pL pG = nr * nc by omega)]; rfl))
      rw [e_k] at hP hD
      subst hQ
      exact ret_i hx hb hr hlk (⟨tr1_2, mv1_2⟩) ⟨rfl, hw7⟩ hP hD hS rfl dX5_makesByHand_40
    · skip
      refine lv_iconst (v := nI 1) hx hb dX5_makesByHand_32 (by decide) ?_
      refine lv_goto (tgt := 37) hx hb dX5_makesByHand_33 (by decide) ?_
      refine lv_iadd hx hb dX5_makesByHand_37 ?_
      refine r_iast hx hb hK hP hD hS 1 3 rfl rfl (by omega) (by decide) dX5_makesByHand_38 (fun H locs hP hD hS => ?_)
      rw [show va_up (gZ (nr, nc, (tn nr nc tt pL), pG, pB, (va_up pk 0 (pk 0 + 1)))) 7 (((va_up pk 0 (pk 0 + 1)) 5) + (nI 1)) = (gZ (nr, nc, (tn nr nc tt pL), pG, pB, (va_up (va_up pk 0 (pk 0 + 1)) 5 (((va_up pk 0 (pk 0 + 1)) 5) + (nI 1))))) from (gZ_sk (j := 5) (by decide))] at hP hD
      have hP : va_P G.1 CL (MW G mh md nr nc (tn nr nc tt pL) pG pB (va_up (va_up pk 0 (pk 0 + 1)) 5 (((va_up pk 0 (pk 0 + 1)) 5) + (nI 1))) bf hi sv ch hs inp ty er wy wd rf lt ln th tr1_2 mv1_2 fo sp wr td) _ := hP
      have hD : va_D A (MW G mh md nr nc (tn nr nc tt pL) pG pB (va_up (va_up pk 0 (pk 0 + 1)) 5 (((va_up pk 0 (pk 0 + 1)) 5) + (nI 1))) bf hi sv ch hs inp ty er wy wd rf lt ln th tr1_2 mv1_2 fo sp wr td) := hD
      refine lv_iload_n hx hb dX5_makesByHand_39 rfl (lv_at hl 0 rfl) ?_
      have e_k : (va_up (va_up pk 0 (pk 0 + 1)) 5 (((va_up pk 0 (pk 0 + 1)) 5) + (nI 1))) = (turnK nr nc pL pG pk tt) := (by unfold turnK; rw [decide_eq_true c24, decide_eq_false (show ¬ hm nr nc pL pG = nr * nc by omega)]; rfl)
      rw [e_k] at hP hD
      subst hQ
      exact ret_i hx hb hr hlk (⟨tr1_2, mv1_2⟩) ⟨rfl, hw7⟩ hP hD hS rfl dX5_makesByHand_40
set_option maxHeartbeats 4000000 in
set_option maxRecDepth 100000 in
theorem m_X5_kept__t (l : Launch) (G : GG) (mh : Nat) (md : Nat → Nat) (nr : Nat) (nc : Nat) (pL : Nat → Nat) (pG : Nat → Nat) (pB : Nat → Bool) (pk : Nat → Int32) (hi : Nat → Int32) (sv : Nat → Int32) (ch : Nat) (hs : Bool) (inp : Nat → Nat) (ty : Nat) (er : Int32) (wy : Int32) (wd : Int32) (rf : Bool) (lt : Nat → Nat) (ln : Nat) (th : Int32) (tr : Nat → Nat) (mv : Nat → Nat) (fo : Int32) (sp : Nat) (wr : Bool) (td : Nat → Int32) (kv : Int32) (bz : ZT) (hth : ¬ th = 0) : MM l G yX5_kept cX5_kept 3 (some .int) ⟨1, 0, 0, 24⟩ [.ref mh, .int kv] (MW G mh md nr nc pL pG pB pk (gZ bz) hi sv ch hs inp ty er wy wd rf lt ln th tr mv fo sp wr td) (Qi_ G (fun (r : Int32) (_ : Unit) => r = nI 0) (fun (_ : Unit) => (MW G mh md bz.1 bz.2.1 bz.2.2.1 bz.2.2.2.1 bz.2.2.2.2.1 bz.2.2.2.2.2 (gZ bz) hi sv ch hs inp ty er wy wd rf lt ln th tr mv fo sp wr td))) := by
  refine MM.of (by decide) (Nat.le_of_ble_eq_true rfl) ?_
  intro p e s m args below meth cd A C hini hA hK hZ hP hD ls hl
  generalize hQ : MQ below ((Qi_ G (fun (r : Int32) (_ : Unit) => r = nI 0) (fun (_ : Unit) => (MW G mh md bz.1 bz.2.1 bz.2.2.1 bz.2.2.2.1 bz.2.2.2.2.1 bz.2.2.2.2.2 (gZ bz) hi sv ch hs inp ty er wy wd rf lt ln th tr mv fo sp wr td))) A) args s (⟨1, 0, 0, 24⟩ : Room).cells (⟨1, 0, 0, 24⟩ : Room).slots A = Q
  obtain ⟨hx, hb, hr, hts, hown, hlk, hml⟩ := C
  have hown : s.vm.findClass RX5 = some m.cls := hown
  have hS : va_S A s.heap s.heap [] := va_S.rf
  have hl : lv_has ls 3 [(0, .ref mh), (1, .int kv)] := hl
  refine lv_aload_n hx hb dX5_kept_0 rfl (lv_at hl 0 rfl) ?_
  refine va_get (D := G.1) (ci := 4) (v := .int th) (C := RX5) (T := TX5) (N := 21) hx hb hts in_X5 hown hK hP 0 rfl rfl 14 (by decide) (hts _ q1741) (fun _ h9 => h9) rfl dX5_kept_1 ?_
  refine lv_if_eq (tgt := 22) hx hb dX5_kept_4 (by decide) (fun c4 => ?_) (fun c4 => ?_)
  · exact absurd c4 hth
  refine lv_aload_n hx hb dX5_kept_7 rfl (lv_at hl 0 rfl) ?_
  refine va_get (D := G.1) (ci := 4) (v := .ref (md 1)) (C := RX5) (T := TX5) (N := 21) hx hb hts in_X5 hown hK hP 0 rfl rfl 1 (by decide) (hts _ q1728) (fun _ h9 => h9) rfl dX5_kept_8 ?_
  refine lv_iconst (v := nI 0) hx hb dX5_kept_11 (by decide) ?_
  refine lv_aload_n hx hb dX5_kept_12 rfl (lv_at hl 0 rfl) ?_
  refine va_get (D := G.1) (ci := 4) (v := .ref (md 0)) (C := RX5) (T := TX5) (N := 21) hx hb hts in_X5 hown hK hP 0 rfl rfl 0 (by decide) (hts _ q1727) (fun _ h9 => h9) rfl dX5_kept_13 ?_
  refine lv_iconst (v := nI 0) hx hb dX5_kept_16 (by decide) ?_
  refine callSv (As := [.ref (md 1), .int (nI 0), .ref (md 0), .int (nI 0)]) (rest := []) (wc := (MRW G mh md (gZ (nr, nc, pL, pG, pB, pk)) (gZ bz) hi sv ch hs inp ty er wy wd rf lt ln th tr mv fo sp wr td)) (wr := ([] : va_W)) ⟨hx, hb, hml, hown, hts⟩ (m_X5_copy__bg l G mh md (gZ (nr, nc, pL, pG, pB, pk)) (gZ bz) hi sv ch hs inp ty er wy wd rf lt ln th tr mv fo sp wr td ) (va_cwS 4 hts (lw_S q1803 q1804 q105 q1805) rfl rfl rfl (by decide +kernel) ⟨Nat.le_of_ble_eq_true rfl, Nat.le_of_ble_eq_true rfl⟩) hK hZ hA hP hD hS [0, 1, 2, 3, 4, 5, 6, 7, 8, 9] [] rfl rfl (by decide) (by decide) (by decide) rfl hl.1 (Nat.le_of_ble_eq_true rfl) ⟨Nat.le_of_ble_eq_true rfl, Nat.le_of_ble_eq_true rfl⟩ rfl dX5_kept_17 (fun u9 H locs hw9 hP hD hS => ?_)
  have hP : va_P G.1 CL (MRW G mh md (va_cpy (gZ bz) (gZ (nr, nc, pL, pG, pB, pk)) 0 0 32) (gZ bz) hi sv ch hs inp ty er wy wd rf lt ln th tr mv fo sp wr td) _ := hP
  have hD : va_D A (MRW G mh md (va_cpy (gZ bz) (gZ (nr, nc, pL, pG, pB, pk)) 0 0 32) (gZ bz) hi sv ch hs inp ty er wy wd rf lt ln th tr mv fo sp wr td) := hD
  obtain ⟨hP, hD⟩ := say_i (gZ (bz.1, bz.2.1, bz.2.2.1, bz.2.2.2.1, bz.2.2.2.2.1, bz.2.2.2.2.2)) hP hD 1 rfl (fun j hj => cpy_a hj)
  have hP : va_P G.1 CL (MW G mh md bz.1 bz.2.1 bz.2.2.1 bz.2.2.2.1 bz.2.2.2.2.1 bz.2.2.2.2.2 (gZ bz) hi sv ch hs inp ty er wy wd rf lt ln th tr mv fo sp wr td) _ := hP
  have hD : va_D A (MW G mh md bz.1 bz.2.1 bz.2.2.1 bz.2.2.2.1 bz.2.2.2.2.1 bz.2.2.2.2.2 (gZ bz) hi sv ch hs inp ty er wy wd rf lt ln th tr mv fo sp wr td) := hD
  refine lv_iconst (v := nI 0) hx hb dX5_kept_20 (by decide) ?_
  subst hQ
  exact ret_i hx hb hr hlk () rfl hP hD hS rfl dX5_kept_21
set_option maxHeartbeats 4000000 in
set_option maxRecDepth 100000 in
theorem m_X5_kept__0 (l : Launch) (G : GG) (mh : Nat) (md : Nat → Nat) (nr : Nat) (nc : Nat) (pL : Nat → Nat) (pG : Nat → Nat) (pB : Nat → Bool) (pk : Nat → Int32) (hi : Nat → Int32) (sv : Nat → Int32) (ch : Nat) (hs : Bool) (inp : Nat → Nat) (ty : Nat) (er : Int32) (wy : Int32) (wd : Int32) (rf : Bool) (lt : Nat → Nat) (ln : Nat) (th : Int32) (tr : Nat → Nat) (mv : Nat → Nat) (fo : Int32) (sp : Nat) (wr : Bool) (td : Nat → Int32) (kv : Int32) (bz : ZT) (zl : List ZT) (hth : th = 0) (hH : HistA hi zl ch) : MM l G yX5_kept cX5_kept 3 (some .int) ⟨1, 0, 0, 24⟩ [.ref mh, .int kv] (MW G mh md nr nc pL pG pB pk (gZ bz) hi sv ch hs inp ty er wy wd rf lt ln th tr mv fo sp wr td) (Qi_ G (fun (r : Int32) (u : (Nat → Int32) × (Nat)) => (r = kv) ∧ (HistA u.1 (pushH zl bz) u.2)) (fun (u : (Nat → Int32) × (Nat)) => (MW G mh md nr nc pL pG pB pk (gZ bz) u.1 sv u.2 hs inp ty er wy wd rf lt ln th tr mv fo sp wr td))) := by
  refine MM.of (by decide) (Nat.le_of_ble_eq_true rfl) ?_
  intro p e s m args below meth cd A C hini hA hK hZ hP hD ls hl
  generalize hQ : MQ below ((Qi_ G (fun (r : Int32) (u : (Nat → Int32) × (Nat)) => (r = kv) ∧ (HistA u.1 (pushH zl bz) u.2)) (fun (u : (Nat → Int32) × (Nat)) => (MW G mh md nr nc pL pG pB pk (gZ bz) u.1 sv u.2 hs inp ty er wy wd rf lt ln th tr mv fo sp wr td))) A) args s (⟨1, 0, 0, 24⟩ : Room).cells (⟨1, 0, 0, 24⟩ : Room).slots A = Q
  obtain ⟨hx, hb, hr, hts, hown, hlk, hml⟩ := C
  have hown : s.vm.findClass RX5 = some m.cls := hown
  have hS : va_S A s.heap s.heap [] := va_S.rf
  have hl : lv_has ls 3 [(0, .ref mh), (1, .int kv)] := hl
  have h8 := hH.2.1
  refine lv_aload_n hx hb dX5_kept_0 rfl (lv_at hl 0 rfl) ?_
  refine va_get (D := G.1) (ci := 4) (v := .int th) (C := RX5) (T := TX5) (N := 21) hx hb hts in_X5 hown hK hP 0 rfl rfl 14 (by decide) (hts _ q1741) (fun _ h9 => h9) rfl dX5_kept_1 ?_
  refine lv_if_eq (tgt := 22) hx hb dX5_kept_4 (by decide) (fun c4 => ?_) (fun c4 => ?_)
  rotate_left
  · exact absurd hth c4
  refine lv_aload_n hx hb dX5_kept_22 rfl (lv_at hl 0 rfl) ?_
  refine va_get (D := G.1) (ci := 4) (v := .int (nI ch)) (C := RX5) (T := TX5) (N := 21) hx hb hts in_X5 hown hK hP 0 rfl rfl 3 (by decide) (hts _ q1730) (fun _ h9 => h9) rfl dX5_kept_23 ?_
  refine lv_bipush (v := nI 8) hx hb dX5_kept_26 (by decide) ?_
  refine n_cmp_ne (tgt := 71) hx hb dX5_kept_28 (by decide) (by omega) (by omega) (fun c28 => ?_) (fun c28 => ?_)
  · skip
    refine lv_aload_n hx hb dX5_kept_71 rfl (lv_at hl 0 rfl) ?_
    refine va_get (D := G.1) (ci := 4) (v := .ref (md 1)) (C := RX5) (T := TX5) (N := 21) hx hb hts in_X5 hown hK hP 0 rfl rfl 1 (by decide) (hts _ q1728) (fun _ h9 => h9) rfl dX5_kept_72 ?_
    refine lv_iconst (v := nI 0) hx hb dX5_kept_75 (by decide) ?_
    refine lv_aload_n hx hb dX5_kept_76 rfl (lv_at hl 0 rfl) ?_
    refine va_get (D := G.1) (ci := 4) (v := .ref (md 2)) (C := RX5) (T := TX5) (N := 21) hx hb hts in_X5 hown hK hP 0 rfl rfl 2 (by decide) (hts _ q1729) (fun _ h9 => h9) rfl dX5_kept_77 ?_
    refine lv_aload_n hx hb dX5_kept_80 rfl (lv_at hl 0 rfl) ?_
    refine va_get (D := G.1) (ci := 4) (v := .int (nI ch)) (C := RX5) (T := TX5) (N := 21) hx hb hts in_X5 hown hK hP 0 rfl rfl 3 (by decide) (hts _ q1730) (fun _ h9 => h9) rfl dX5_kept_81 ?_
    refine lv_bipush (v := nI 32) hx hb dX5_kept_84 (by decide) ?_
    refine n_imul hx hb dX5_kept_86 ?_
    refine callSv (As := [.ref (md 1), .int (nI 0), .ref (md 2), .int (nI (ch * 32))]) (rest := []) (wc := (MRW G mh md (gZ (nr, nc, pL, pG, pB, pk)) (gZ bz) hi sv ch hs inp ty er wy wd rf lt ln th tr mv fo sp wr td)) (wr := ([] : va_W)) ⟨hx, hb, hml, hown, hts⟩ (m_X5_copy__bh l G mh md (gZ (nr, nc, pL, pG, pB, pk)) (gZ bz) hi sv ch hs inp ty er wy wd rf lt ln th tr mv fo sp wr td (ch * 32) (by first | assumption | omega)) (va_cwS 4 hts (lw_S q1803 q1804 q105 q1805) rfl rfl rfl (by decide +kernel) ⟨Nat.le_of_ble_eq_true rfl, Nat.le_of_ble_eq_true rfl⟩) hK hZ hA hP hD hS [0, 1, 2, 3, 4, 5, 6, 7, 8, 9] [] rfl rfl (by decide) (by decide) (by decide) rfl hl.1 (Nat.le_of_ble_eq_true rfl) ⟨Nat.le_of_ble_eq_true rfl, Nat.le_of_ble_eq_true rfl⟩ rfl dX5_kept_87 (fun u9 H locs hw9 hP hD hS => ?_)
    have hP : va_P G.1 CL (MRW G mh md (gZ (nr, nc, pL, pG, pB, pk)) (gZ bz) (va_cpy (gZ bz) hi 0 (ch * 32) 32) sv ch hs inp ty er wy wd rf lt ln th tr mv fo sp wr td) _ := hP
    have hD : va_D A (MRW G mh md (gZ (nr, nc, pL, pG, pB, pk)) (gZ bz) (va_cpy (gZ bz) hi 0 (ch * 32) 32) sv ch hs inp ty er wy wd rf lt ln th tr mv fo sp wr td) := hD
    have hP : va_P G.1 CL (MW G mh md nr nc pL pG pB pk (gZ bz) (va_cpy (gZ bz) hi 0 (ch * 32) 32) sv ch hs inp ty er wy wd rf lt ln th tr mv fo sp wr td) _ := hP
    have hD : va_D A (MW G mh md nr nc pL pG pB pk (gZ bz) (va_cpy (gZ bz) hi 0 (ch * 32) 32) sv ch hs inp ty er wy wd rf lt ln th tr mv fo sp wr td) := hD
    refine lv_aload_n hx hb dX5_kept_90 rfl (lv_at hl 0 rfl) ?_
    refine lv_dup hx hb dX5_kept_91 rfl ?_
    refine va_get (D := G.1) (ci := 4) (v := .int (nI ch)) (C := RX5) (T := TX5) (N := 21) hx hb hts in_X5 hown hK hP 0 rfl rfl 3 (by decide) (hts _ q1730) (fun _ h9 => h9) rfl dX5_kept_92 ?_
    refine lv_iconst (v := nI 1) hx hb dX5_kept_95 (by decide) ?_
    refine n_iadd hx hb dX5_kept_96 ?_
    refine va_put (D := G.1) (ci := 4) (v := .int (nI (ch + 1))) (ty := .int) (C := RX5) (T := TX5) (N := 21) hx hb hts in_X5 tyX5 tyX5_ok nmX5 hown hK hP hD hS 0 rfl rfl 3 (by decide) (hts _ q1730) (fun _ h9 => h9) rfl (by decide +kernel) rfl rfl (Nat.le_of_ble_eq_true rfl) dX5_kept_97 (fun H locs hP hD hS => ?_)
    have hP : va_P G.1 CL (MW G mh md nr nc pL pG pB pk (gZ bz) (va_cpy (gZ bz) hi 0 (ch * 32) 32) sv (ch + 1) hs inp ty er wy wd rf lt ln th tr mv fo sp wr td) _ := hP
    have hD : va_D A (MW G mh md nr nc pL pG pB pk (gZ bz) (va_cpy (gZ bz) hi 0 (ch * 32) 32) sv (ch + 1) hs inp ty er wy wd rf lt ln th tr mv fo sp wr td) := hD
    refine lv_iload_n hx hb dX5_kept_100 rfl (lv_at hl 1 rfl) ?_
    subst hQ
    exact ret_i hx hb hr hlk (⟨(va_cpy (gZ bz) hi 0 (ch * 32) 32), (ch + 1)⟩) ⟨rfl, (hH.push (by omega))⟩ hP hD hS rfl dX5_kept_101
  · skip
    refine lv_iconst (v := nI 0) hx hb dX5_kept_31 (by decide) ?_
    refine lv_istore_n (lv' := [(2, .int (nI 0)), (0, .ref mh), (1, .int kv)]) hx hb dX5_kept_32 rfl hl (by decide) rfl (fun ls hl => ?_)
    have lp33 : ∀ (f : Nat) (i : Nat) (M1 : Nat → Int32), 224 - i < f → (i ≤ 224) → (∀ j, M1 j = if j < i then hi (j + 32) else hi j) → ∀ (H : Heap) (locs : List Loc) (ls : Array Slot), va_P G.1 CL (MW G mh md nr nc pL pG pB pk (gZ bz) M1 sv ch hs inp ty er wy wd rf lt ln th tr mv fo sp wr td) H → va_D A (MW G mh md nr nc pL pG pB pk (gZ bz) M1 sv ch hs inp ty er wy wd rf lt ln th tr mv fo sp wr td) → va_S A s.heap H locs → lv_has ls 3 [(2, .int (nI i)), (0, .ref mh), (1, .int kv)] → W p l e (⟨1, 0, 0, 24⟩ : Room) s m args below meth cd H locs 0 0 Q (F0 m 33 ls []) := by
      intro f
      induction f with
      | zero => intro i M1 hf; exact absurd hf (Nat.not_lt_zero _)
      | succ f ih33 =>
        intro i M1 hf hi9 hM H locs ls hP hD hS hl
        refine lv_iload_n hx hb dX5_kept_33 rfl (lv_at hl 0 rfl) ?_
        refine lv_sipush (v := nI 224) hx hb dX5_kept_34 (by decide) ?_
        refine n_cmp_ge (tgt := 61) hx hb dX5_kept_37 (by decide) (by omega) (by omega) (fun c37 => ?_) (fun c37 => ?_)
        · skip
          rw [show M1 = (shH hi) from (by funext j; rw [hM j, show i = 224 by omega]; rfl)] at hP hD
          refine lv_aload_n hx hb dX5_kept_61 rfl (lv_at hl 1 rfl) ?_
          refine lv_dup hx hb dX5_kept_62 rfl ?_
          refine va_get (D := G.1) (ci := 4) (v := .int (nI ch)) (C := RX5) (T := TX5) (N := 21) hx hb hts in_X5 hown hK hP 0 rfl rfl 3 (by decide) (hts _ q1730) (fun _ h9 => h9) rfl dX5_kept_63 ?_
          refine lv_iconst (v := nI 1) hx hb dX5_kept_66 (by decide) ?_
          refine n_isub hx hb (by omega) dX5_kept_67 ?_
          refine va_put (D := G.1) (ci := 4) (v := .int (nI (ch - 1))) (ty := .int) (C := RX5) (T := TX5) (N := 21) hx hb hts in_X5 tyX5 tyX5_ok nmX5 hown hK hP hD hS 0 rfl rfl 3 (by decide) (hts _ q1730) (fun _ h9 => h9) rfl (by decide +kernel) rfl rfl (Nat.le_of_ble_eq_true rfl) dX5_kept_68 (fun H locs hP hD hS => ?_)
          have hP : va_P G.1 CL (MW G mh md nr nc pL pG pB pk (gZ bz) (shH hi) sv (ch - 1) hs inp ty er wy wd rf lt ln th tr mv fo sp wr td) _ := hP
          have hD : va_D A (MW G mh md nr nc pL pG pB pk (gZ bz) (shH hi) sv (ch - 1) hs inp ty er wy wd rf lt ln th tr mv fo sp wr td) := hD
          refine lv_aload_n hx hb dX5_kept_71 rfl (lv_at hl 1 rfl) ?_
          refine va_get (D := G.1) (ci := 4) (v := .ref (md 1)) (C := RX5) (T := TX5) (N := 21) hx hb hts in_X5 hown hK hP 0 rfl rfl 1 (by decide) (hts _ q1728) (fun _ h9 => h9) rfl dX5_kept_72 ?_
          refine lv_iconst (v := nI 0) hx hb dX5_kept_75 (by decide) ?_
          refine lv_aload_n hx hb dX5_kept_76 rfl (lv_at hl 1 rfl) ?_
          refine va_get (D := G.1) (ci := 4) (v := .ref (md 2)) (C := RX5) (T := TX5) (N := 21) hx hb hts in_X5 hown hK hP 0 rfl rfl 2 (by decide) (hts _ q1729) (fun _ h9 => h9) rfl dX5_kept_77 ?_
          refine lv_aload_n hx hb dX5_kept_80 rfl (lv_at hl 1 rfl) ?_
          refine va_get (D := G.1) (ci := 4) (v := .int (nI (ch - 1))) (C := RX5) (T := TX5) (N := 21) hx hb hts in_X5 hown hK hP 0 rfl rfl 3 (by decide) (hts _ q1730) (fun _ h9 => h9) rfl dX5_kept_81 ?_
          refine lv_bipush (v := nI 32) hx hb dX5_kept_84 (by decide) ?_
          refine n_imul hx hb dX5_kept_86 ?_
          refine callSv (As := [.ref (md 1), .int (nI 0), .ref (md 2), .int (nI ((ch - 1) * 32))]) (rest := []) (wc := (MRW G mh md (gZ (nr, nc, pL, pG, pB, pk)) (gZ bz) (shH hi) sv (ch - 1) hs inp ty er wy wd rf lt ln th tr mv fo sp wr td)) (wr := ([] : va_W)) ⟨hx, hb, hml, hown, hts⟩ (m_X5_copy__bh l G mh md (gZ (nr, nc, pL, pG, pB, pk)) (gZ bz) (shH hi) sv (ch - 1) hs inp ty er wy wd rf lt ln th tr mv fo sp wr td ((ch - 1) * 32) (by first | assumption | omega)) (va_cwS 4 hts (lw_S q1803 q1804 q105 q1805) rfl rfl rfl (by decide +kernel) ⟨Nat.le_of_ble_eq_true rfl, Nat.le_of_ble_eq_true rfl⟩) hK hZ hA hP hD hS [0, 1, 2, 3, 4, 5, 6, 7, 8, 9] [] rfl rfl (by decide) (by decide) (by decide) rfl hl.1 (Nat.le_of_ble_eq_true rfl) ⟨Nat.le_of_ble_eq_true rfl, Nat.le_of_ble_eq_true rfl⟩ rfl dX5_kept_87 (fun u9 H locs hw9 hP hD hS => ?_)
          have hP : va_P G.1 CL (MRW G mh md (gZ (nr, nc, pL, pG, pB, pk)) (gZ bz) (va_cpy (gZ bz) (shH hi) 0 ((ch - 1) * 32) 32) sv (ch - 1) hs inp ty er wy wd rf lt ln th tr mv fo sp wr td) _ := hP
          have hD : va_D A (MRW G mh md (gZ (nr, nc, pL, pG, pB, pk)) (gZ bz) (va_cpy (gZ bz) (shH hi) 0 ((ch - 1) * 32) 32) sv (ch - 1) hs inp ty er wy wd rf lt ln th tr mv fo sp wr td) := hD
          have hP : va_P G.1 CL (MW G mh md nr nc pL pG pB pk (gZ bz) (va_cpy (gZ bz) (shH hi) 0 ((ch - 1) * 32) 32) sv (ch - 1) hs inp ty er wy wd rf lt ln th tr mv fo sp wr td) _ := hP
          have hD : va_D A (MW G mh md nr nc pL pG pB pk (gZ bz) (va_cpy (gZ bz) (shH hi) 0 ((ch - 1) * 32) 32) sv (ch - 1) hs inp ty er wy wd rf lt ln th tr mv fo sp wr td) := hD
          refine lv_aload_n hx hb dX5_kept_90 rfl (lv_at hl 1 rfl) ?_
          refine lv_dup hx hb dX5_kept_91 rfl ?_
          refine va_get (D := G.1) (ci := 4) (v := .int (nI (ch - 1))) (C := RX5) (T := TX5) (N := 21) hx hb hts in_X5 hown hK hP 0 rfl rfl 3 (by decide) (hts _ q1730) (fun _ h9 => h9) rfl dX5_kept_92 ?_
          refine lv_iconst (v := nI 1) hx hb dX5_kept_95 (by decide) ?_
          refine n_iadd hx hb dX5_kept_96 ?_
          refine va_put (D := G.1) (ci := 4) (v := .int (nI ((ch - 1) + 1))) (ty := .int) (C := RX5) (T := TX5) (N := 21) hx hb hts in_X5 tyX5 tyX5_ok nmX5 hown hK hP hD hS 0 rfl rfl 3 (by decide) (hts _ q1730) (fun _ h9 => h9) rfl (by decide +kernel) rfl rfl (Nat.le_of_ble_eq_true rfl) dX5_kept_97 (fun H locs hP hD hS => ?_)
          have hP : va_P G.1 CL (MW G mh md nr nc pL pG pB pk (gZ bz) (va_cpy (gZ bz) (shH hi) 0 ((ch - 1) * 32) 32) sv ((ch - 1) + 1) hs inp ty er wy wd rf lt ln th tr mv fo sp wr td) _ := hP
          have hD : va_D A (MW G mh md nr nc pL pG pB pk (gZ bz) (va_cpy (gZ bz) (shH hi) 0 ((ch - 1) * 32) 32) sv ((ch - 1) + 1) hs inp ty er wy wd rf lt ln th tr mv fo sp wr td) := hD
          refine lv_iload_n hx hb dX5_kept_100 rfl (lv_at hl 2 rfl) ?_
          subst hQ
          exact ret_i hx hb hr hlk (⟨(va_cpy (gZ bz) (shH hi) 0 ((ch - 1) * 32) 32), ((ch - 1) + 1)⟩) ⟨rfl, (by subst c28; exact hH.shift)⟩ hP hD hS rfl dX5_kept_101
        · skip
          refine lv_aload_n hx hb dX5_kept_40 rfl (lv_at hl 1 rfl) ?_
          refine va_get (D := G.1) (ci := 4) (v := .ref (md 2)) (C := RX5) (T := TX5) (N := 21) hx hb hts in_X5 hown hK hP 0 rfl rfl 2 (by decide) (hts _ q1729) (fun _ h9 => h9) rfl dX5_kept_41 ?_
          refine lv_iload_n hx hb dX5_kept_44 rfl (lv_at hl 0 rfl) ?_
          refine lv_aload_n hx hb dX5_kept_45 rfl (lv_at hl 1 rfl) ?_
          refine va_get (D := G.1) (ci := 4) (v := .ref (md 2)) (C := RX5) (T := TX5) (N := 21) hx hb hts in_X5 hown hK hP 0 rfl rfl 2 (by decide) (hts _ q1729) (fun _ h9 => h9) rfl dX5_kept_46 ?_
          refine lv_iload_n hx hb dX5_kept_49 rfl (lv_at hl 0 rfl) ?_
          refine lv_bipush (v := nI 32) hx hb dX5_kept_50 (by decide) ?_
          refine n_iadd hx hb dX5_kept_52 ?_
          refine r_iald hx hb hK hP 3 3 rfl rfl (by omega) (by decide) dX5_kept_53 ?_
          refine r_iast hx hb hK hP hD hS 3 3 rfl rfl (by omega) (by decide) dX5_kept_54 (fun H locs hP hD hS => ?_)
          have hP : va_P G.1 CL (MW G mh md nr nc pL pG pB pk (gZ bz) (va_up M1 i (M1 (i + 32))) sv ch hs inp ty er wy wd rf lt ln th tr mv fo sp wr td) _ := hP
          have hD : va_D A (MW G mh md nr nc pL pG pB pk (gZ bz) (va_up M1 i (M1 (i + 32))) sv ch hs inp ty er wy wd rf lt ln th tr mv fo sp wr td) := hD
          refine lv_iinc (v := nI (i + 1)) (lv' := [(2, .int (nI (i + 1))), (0, .ref mh), (1, .int kv)]) hx hb dX5_kept_55 hl (k := 0) rfl (nI_add _ _) (by decide) rfl (fun ls hl => ?_)
          refine lv_goto (tgt := 33) hx hb dX5_kept_58 (by decide) ?_
          exact ih33 (i + 1) (va_up M1 i (M1 (i + 32))) (by omega) (by omega) (fun j => by unfold va_up; split; (rename_i z; subst z; rw [if_pos (by omega), hM, if_neg (by omega)]); (rename_i z; rw [hM]; by_cases h : j < i; (rw [if_pos h, if_pos (by omega)]); (rw [if_neg h, if_neg (by omega)]))) _ _ _ hP hD hS (lv_sub hl [0, 1, 2] rfl)
    exact lp33 _ 0 hi (Nat.lt_succ_self _) (by omega) (fun j => by rw [if_neg (Nat.not_lt_zero _)]) _ _ _ hP hD hS (lv_sub hl [0, 1, 2] rfl)
