theorem m1_add (a : Nat) {c : Nat} (h : 1 ≤ c) : nI a + (-1) + nI c = nI (a + (c - 1)) := by
  obtain ⟨d, rfl⟩ : ∃ d, c = d + 1 := ⟨c - 1, by omega⟩
  rw [show d + 1 - 1 = d by omega, nI_succ, ← nI_add]
  generalize nI a = x; generalize nI d = y
  grind
theorem fit_code {T K : Nat} (hT : 97 ≤ T ∧ T ≤ 108) (hK : K = 46 ∨ (97 ≤ K ∧ K ≤ 108)) : gk K = nI (T - 97) ↔ (K = T) := by
  unfold gk
  constructor
  · intro h
    split at h
    · exact absurd h.symm (nI_ne1 (by omega))
    · have := (nI_eq (by omega) (by omega)).mp h; omega
  · rintro rfl; rw [if_neg (by omega)]
theorem gk_m1 {K : Nat} (hK : K = 46 ∨ (97 ≤ K ∧ K ≤ 108)) : gk K = -1 ↔ K = 46 := by
  unfold gk; split
  · exact ⟨fun _ => by assumption, fun _ => rfl⟩
  · exact ⟨fun h => absurd h (nI_ne1 (by omega)), fun h => absurd h (by assumption)⟩
theorem tn_rg {nr nc t : Nat} {T : Nat → Nat} (hd : 2 ≤ nr ∧ nr ≤ 3 ∧ 2 ≤ nc ∧ nc ≤ 3) (ht : t < 2 * (nr + nc)) (h : ∀ p, p < nr * nc → 97 ≤ T p ∧ T p ≤ 108) : ∀ p, p < nr * nc → 97 ≤ tn nr nc t T p ∧ tn nr nc t T p ≤ 108 := fun p hp => by
  unfold tn; rw [if_pos hp]; exact h _ (gs_lt hd (bk_lt hd ht).1 hp)
/-- shift of the history by one -/
def shH (hi : Nat → Int32) : Nat → Int32 := fun j => if j < 224 then hi (j + 32) else hi j
/-- the history's numbers hold the boards -/
def HistA (hi : Nat → Int32) (zl : List ZT) (ch : Nat) : Prop := ch = zl.length ∧ ch ≤ 8 ∧ ∀ i z, zl[i]? = some z → ∀ j, j < 32 → hi (32 * i + j) = gZ z j
def pushH (zl : List ZT) (z : ZT) : List ZT := if zl.length = 8 then zl.drop 1 ++ [z] else zl ++ [z]
theorem HistA.push {hi : Nat → Int32} {zl : List ZT} {ch : Nat} {z : ZT} (h : HistA hi zl ch) (h8 : ch < 8) : HistA (va_cpy (gZ z) hi 0 (ch * 32) 32) (pushH zl z) (ch + 1) := by
  obtain ⟨h1, h2, h3⟩ := h
  have e : pushH zl z = zl ++ [z] := if_neg (by omega)
  rw [e]
  refine ⟨by simp [h1], by omega, fun i w hw j hj => ?_⟩
  by_cases hi2 : i < zl.length
  · rw [List.getElem?_append_left hi2] at hw
    unfold va_cpy; rw [if_neg (by omega)]
    exact h3 i w hw j hj
  · rw [List.getElem?_append_right (by omega)] at hw
    have hz : i - zl.length < 1 := (List.getElem?_eq_some_iff.mp hw).1
    have hi3 : i = ch := by omega
    rw [show i - zl.length = 0 by omega] at hw
    cases hw
    unfold va_cpy; rw [if_pos (by omega)]; congr 1; omega
theorem HistA.shift {hi : Nat → Int32} {zl : List ZT} {z : ZT} (h : HistA hi zl 8) : HistA (va_cpy (gZ z) (shH hi) 0 (7 * 32) 32) (pushH zl z) 8 := by
  obtain ⟨h1, h2, h3⟩ := h
  have e : pushH zl z = zl.drop 1 ++ [z] := if_pos (by omega)
  rw [e]
  refine ⟨by simp; omega, by omega, fun i w hw j hj => ?_⟩
  have hl : (zl.drop 1).length = 7 := by simp; omega
  by_cases hi2 : i < 7
  · rw [List.getElem?_append_left (by omega), List.getElem?_drop] at hw
    unfold va_cpy; rw [if_neg (by omega)]
    unfold shH; rw [if_pos (by omega)]
    have := h3 (1 + i) w hw j hj
    rw [← this]; congr 1; omega
  · rw [List.getElem?_append_right (by omega)] at hw
    have hz : i - (zl.drop 1).length < 1 := (List.getElem?_eq_some_iff.mp hw).1
    have hi3 : i = 7 := by omega
    rw [show i - (zl.drop 1).length = 0 by omega] at hw
    cases hw
    unfold va_cpy; rw [if_pos (by omega), show 0 + (32 * i + j - 7 * 32) = j by omega]
theorem mv_step {nr nc tt i v : Nat} {M1 pT : Nat → Nat} (hd : 2 ≤ nr ∧ nr ≤ 3 ∧ 2 ≤ nc ∧ nc ≤ 3) (ht0 : tt < 2 * (nr + nc)) (hi : i < nr * nc) (h1 : ∀ q, q < i → M1 (gs nr nc q tt) = pT q - 97) (hv : v = pT i - 97) : ∀ q, q < i + 1 → va_up M1 (gs nr nc i tt) v (gs nr nc q tt) = pT q - 97 := fun q hq => by
  by_cases z : q = i
  · subst z; unfold va_up; rw [if_pos rfl]; exact hv
  · unfold va_up
    rw [if_neg (fun y => z (by rw [← gs_bk hd ht0 (show q < nr * nc by omega), y, gs_bk hd ht0 hi]))]
    exact h1 q (by omega)
set_option maxHeartbeats 4000000 in
set_option maxRecDepth 100000 in
theorem m_X5_goes (l : Launch) (G : GG) (mh : Nat) (md : Nat → Nat) (nr : Nat) (nc : Nat) (pL : Nat → Nat) (pG : Nat → Nat) (pB : Nat → Bool) (pk : Nat → Int32) (bf : Nat → Int32) (hi : Nat → Int32) (sv : Nat → Int32) (ch : Nat) (hs : Bool) (inp : Nat → Nat) (ty : Nat) (er : Int32) (wy : Int32) (wd : Int32) (rf : Bool) (lt : Nat → Nat) (ln : Nat) (th : Int32) (tr : Nat → Nat) (mv : Nat → Nat) (fo : Int32) (sp : Nat) (wr : Bool) (td : Nat → Int32) (pp : Nat) (tt : Nat) (hd : 2 ≤ nr ∧ nr ≤ 3 ∧ 2 ≤ nc ∧ nc ≤ 3) (hp0 : pp < nr * nc) (ht0 : tt < 2 * (nr + nc)) : MM l G yX5_goes cX5_goes 7 (some .int) ⟨0, 0, 0, 0⟩ [.ref mh, .int (nI pp), .int (nI tt)] (MW G mh md nr nc pL pG pB pk bf hi sv ch hs inp ty er wy wd rf lt ln th tr mv fo sp wr td) (Qi_ G (fun (r : Int32) (_ : Unit) => r = nI (gs nr nc pp tt)) (fun (_ : Unit) => (MW G mh md nr nc pL pG pB pk bf hi sv ch hs inp ty er wy wd rf lt ln th tr mv fo sp wr td))) := by
  refine MM.of (by decide) (Nat.le_of_ble_eq_true rfl) ?_
  intro p e s m args below meth cd A C hini hA hK hZ hP hD ls hl
  generalize hQ : MQ below ((Qi_ G (fun (r : Int32) (_ : Unit) => r = nI (gs nr nc pp tt)) (fun (_ : Unit) => (MW G mh md nr nc pL pG pB pk bf hi sv ch hs inp ty er wy wd rf lt ln th tr mv fo sp wr td))) A) args s (⟨0, 0, 0, 0⟩ : Room).cells (⟨0, 0, 0, 0⟩ : Room).slots A = Q
  obtain ⟨hx, hb, hr, hts, hown, hlk, hml⟩ := C
  have hown : s.vm.findClass RX5 = some m.cls := hown
  have hS : va_S A s.heap s.heap [] := va_S.rf
  have hl : lv_has ls 7 [(0, .ref mh), (1, .int (nI pp)), (2, .int (nI tt))] := hl
  have hmu := dm_mul hd
  have hq1 := div_ltm hp0
  have hq2 := Nat.mod_lt pp (show nc > 0 by omega)
  have hq3 := Nat.div_add_mod' pp nc
  have hq4 : pp / nc ≤ pp := Nat.div_le_self pp nc
  have hb1 : (pp % nc + (nc - 1)) % nc < nc := Nat.mod_lt _ (by omega)
  have hb2 : (pp / nc + (nr - 1)) % nr < nr := Nat.mod_lt _ (by omega)
  refine lv_iload_n hx hb dX5_goes_0 rfl (lv_at hl 1 rfl) ?_
  refine lv_aload_n hx hb dX5_goes_1 rfl (lv_at hl 0 rfl) ?_
  refine va_get (D := G.1) (ci := 4) (v := .ref (md 0)) (C := RX5) (T := TX5) (N := 21) hx hb hts in_X5 hown hK hP 0 rfl rfl 0 (by decide) (hts _ q1727) (fun _ h9 => h9) rfl dX5_goes_2 ?_
  refine lv_iconst (v := nI 1) hx hb dX5_goes_5 (by decide) ?_
  refine r_iald hx hb hK hP 1 3 rfl rfl (by omega) (by decide) dX5_goes_6 ?_
  refine eq_i (y := nI nc) rfl ?_
  refine n_idiv hx hb (by omega) (by omega) (by omega) dX5_goes_7 ?_
  refine lv_istore_n (lv' := [(3, .int (nI (pp / nc))), (0, .ref mh), (1, .int (nI pp)), (2, .int (nI tt))]) hx hb dX5_goes_8 rfl hl (by decide) rfl (fun ls hl => ?_)
  refine lv_iload_n hx hb dX5_goes_9 rfl (lv_at hl 2 rfl) ?_
  refine lv_aload_n hx hb dX5_goes_10 rfl (lv_at hl 1 rfl) ?_
  refine va_get (D := G.1) (ci := 4) (v := .ref (md 0)) (C := RX5) (T := TX5) (N := 21) hx hb hts in_X5 hown hK hP 0 rfl rfl 0 (by decide) (hts _ q1727) (fun _ h9 => h9) rfl dX5_goes_11 ?_
  refine lv_iconst (v := nI 1) hx hb dX5_goes_14 (by decide) ?_
  refine r_iald hx hb hK hP 1 3 rfl rfl (by omega) (by decide) dX5_goes_15 ?_
  refine eq_i (y := nI nc) rfl ?_
  refine n_irem hx hb (by omega) (by omega) (by omega) dX5_goes_16 ?_
  refine lv_istore (lv' := [(4, .int (nI (pp % nc))), (3, .int (nI (pp / nc))), (0, .ref mh), (1, .int (nI pp)), (2, .int (nI tt))]) hx hb dX5_goes_17 hl (by decide) rfl (fun ls hl => ?_)
  refine lv_iload_n hx hb dX5_goes_19 rfl (lv_at hl 4 rfl) ?_
  refine lv_iconst (v := nI 2) hx hb dX5_goes_20 (by decide) ?_
  refine n_idiv hx hb (by omega) (by omega) (by omega) dX5_goes_21 ?_
  refine lv_istore (lv' := [(5, .int (nI (tt / 2))), (4, .int (nI (pp % nc))), (3, .int (nI (pp / nc))), (0, .ref mh), (1, .int (nI pp)), (2, .int (nI tt))]) hx hb dX5_goes_22 hl (by decide) rfl (fun ls hl => ?_)
  refine lv_iload_n hx hb dX5_goes_24 rfl (lv_at hl 5 rfl) ?_
  refine lv_iconst (v := nI 2) hx hb dX5_goes_25 (by decide) ?_
  refine n_irem hx hb (by omega) (by omega) (by omega) dX5_goes_26 ?_
  refine n_if_ne (tgt := 34) hx hb dX5_goes_27 (by decide) (by omega) (fun c27 => ?_) (fun c27 => ?_)
  · skip
    refine lv_iconst (v := (-1)) hx hb dX5_goes_34 (by decide) ?_
    refine lv_istore (lv' := [(6, .int (-1)), (5, .int (nI (tt / 2))), (4, .int (nI (pp % nc))), (3, .int (nI (pp / nc))), (0, .ref mh), (1, .int (nI pp)), (2, .int (nI tt))]) hx hb dX5_goes_35 hl (by decide) rfl (fun ls hl => ?_)
    refine lv_iload hx hb dX5_goes_37 (lv_at hl 1 rfl) ?_
    refine lv_aload_n hx hb dX5_goes_39 rfl (lv_at hl 4 rfl) ?_
    refine va_get (D := G.1) (ci := 4) (v := .ref (md 0)) (C := RX5) (T := TX5) (N := 21) hx hb hts in_X5 hown hK hP 0 rfl rfl 0 (by decide) (hts _ q1727) (fun _ h9 => h9) rfl dX5_goes_40 ?_
    refine lv_iconst (v := nI 0) hx hb dX5_goes_43 (by decide) ?_
    refine r_iald hx hb hK hP 1 3 rfl rfl (by omega) (by decide) dX5_goes_44 ?_
    refine eq_i (y := nI nr) rfl ?_
    refine n_cmp_ge (tgt := 83) hx hb dX5_goes_45 (by decide) (by omega) (by omega) (fun c45 => ?_) (fun c45 => ?_)
    · skip
      refine lv_iload hx hb dX5_goes_83 (lv_at hl 2 rfl) ?_
      refine lv_iload hx hb dX5_goes_85 (lv_at hl 1 rfl) ?_
      refine lv_aload_n hx hb dX5_goes_87 rfl (lv_at hl 4 rfl) ?_
      refine va_get (D := G.1) (ci := 4) (v := .ref (md 0)) (C := RX5) (T := TX5) (N := 21) hx hb hts in_X5 hown hK hP 0 rfl rfl 0 (by decide) (hts _ q1727) (fun _ h9 => h9) rfl dX5_goes_88 ?_
      refine lv_iconst (v := nI 0) hx hb dX5_goes_91 (by decide) ?_
      refine r_iald hx hb hK hP 1 3 rfl rfl (by omega) (by decide) dX5_goes_92 ?_
      refine eq_i (y := nI nr) rfl ?_
      refine n_isub hx hb (by omega) dX5_goes_93 ?_
      refine n_cmp_ne (tgt := 118) hx hb dX5_goes_94 (by decide) (by omega) (by omega) (fun c94 => ?_) (fun c94 => ?_)
      · skip
        refine lv_iload_n hx hb dX5_goes_118 rfl (lv_at hl 3 rfl) ?_
        refine lv_istore_n (lv' := [(3, .int (nI (pp / nc))), (6, .int (-1)), (5, .int (nI (tt / 2))), (4, .int (nI (pp % nc))), (0, .ref mh), (1, .int (nI pp)), (2, .int (nI tt))]) hx hb dX5_goes_119 rfl hl (by decide) rfl (fun ls hl => ?_)
        refine lv_iload_n hx hb dX5_goes_120 rfl (lv_at hl 0 rfl) ?_
        refine lv_aload_n hx hb dX5_goes_121 rfl (lv_at hl 4 rfl) ?_
        refine va_get (D := G.1) (ci := 4) (v := .ref (md 0)) (C := RX5) (T := TX5) (N := 21) hx hb hts in_X5 hown hK hP 0 rfl rfl 0 (by decide) (hts _ q1727) (fun _ h9 => h9) rfl dX5_goes_122 ?_
        refine lv_iconst (v := nI 1) hx hb dX5_goes_125 (by decide) ?_
        refine r_iald hx hb hK hP 1 3 rfl rfl (by omega) (by decide) dX5_goes_126 ?_
        refine eq_i (y := nI nc) rfl ?_
        refine n_imul hx hb dX5_goes_127 ?_
        refine lv_iload hx hb dX5_goes_128 (lv_at hl 3 rfl) ?_
        refine n_iadd hx hb dX5_goes_130 ?_
        subst hQ
        exact ret_i hx hb hr hlk () (congrArg nI (by unfold gs; rw [if_neg (Nat.not_lt.mpr c45), if_neg c94]; omega)) hP hD hS rfl dX5_goes_131
      · skip
        refine lv_iload_n hx hb dX5_goes_97 rfl (lv_at hl 3 rfl) ?_
        refine lv_iload hx hb dX5_goes_98 (lv_at hl 0 rfl) ?_
        refine lv_iadd hx hb dX5_goes_100 ?_
        refine lv_aload_n hx hb dX5_goes_101 rfl (lv_at hl 4 rfl) ?_
        refine va_get (D := G.1) (ci := 4) (v := .ref (md 0)) (C := RX5) (T := TX5) (N := 21) hx hb hts in_X5 hown hK hP 0 rfl rfl 0 (by decide) (hts _ q1727) (fun _ h9 => h9) rfl dX5_goes_102 ?_
        refine lv_iconst (v := nI 0) hx hb dX5_goes_105 (by decide) ?_
        refine r_iald hx hb hK hP 1 3 rfl rfl (by omega) (by decide) dX5_goes_106 ?_
        refine eq_i (y := nI nr) rfl ?_
        refine lv_iadd hx hb dX5_goes_107 ?_
        refine eq_i (y := nI (pp / nc + (nr - 1))) (m1_add _ (by omega)) ?_
        refine lv_aload_n hx hb dX5_goes_108 rfl (lv_at hl 4 rfl) ?_
        refine va_get (D := G.1) (ci := 4) (v := .ref (md 0)) (C := RX5) (T := TX5) (N := 21) hx hb hts in_X5 hown hK hP 0 rfl rfl 0 (by decide) (hts _ q1727) (fun _ h9 => h9) rfl dX5_goes_109 ?_
        refine lv_iconst (v := nI 0) hx hb dX5_goes_112 (by decide) ?_
        refine r_iald hx hb hK hP 1 3 rfl rfl (by omega) (by decide) dX5_goes_113 ?_
        refine eq_i (y := nI nr) rfl ?_
        refine n_irem hx hb (by omega) (by omega) (by omega) dX5_goes_114 ?_
        refine lv_goto (tgt := 119) hx hb dX5_goes_115 (by decide) ?_
        refine lv_istore_n (lv' := [(3, .int (nI ((pp / nc + (nr - 1)) % nr))), (6, .int (-1)), (5, .int (nI (tt / 2))), (4, .int (nI (pp % nc))), (0, .ref mh), (1, .int (nI pp)), (2, .int (nI tt))]) hx hb dX5_goes_119 rfl hl (by decide) rfl (fun ls hl => ?_)
        refine lv_iload_n hx hb dX5_goes_120 rfl (lv_at hl 0 rfl) ?_
        refine lv_aload_n hx hb dX5_goes_121 rfl (lv_at hl 4 rfl) ?_
        refine va_get (D := G.1) (ci := 4) (v := .ref (md 0)) (C := RX5) (T := TX5) (N := 21) hx hb hts in_X5 hown hK hP 0 rfl rfl 0 (by decide) (hts _ q1727) (fun _ h9 => h9) rfl dX5_goes_122 ?_
        refine lv_iconst (v := nI 1) hx hb dX5_goes_125 (by decide) ?_
        refine r_iald hx hb hK hP 1 3 rfl rfl (by omega) (by decide) dX5_goes_126 ?_
        refine eq_i (y := nI nc) rfl ?_
        refine n_imul hx hb dX5_goes_127 ?_
        refine lv_iload hx hb dX5_goes_128 (lv_at hl 3 rfl) ?_
        refine n_iadd hx hb dX5_goes_130 ?_
        subst hQ
        exact ret_i hx hb hr hlk () (congrArg nI (by unfold gs; rw [if_neg (Nat.not_lt.mpr c45), if_pos c94]; first | (rw [if_pos c27, Nat.add_mod_right]; done) | (rw [if_neg (by omega)]; done))) hP hD hS rfl dX5_goes_131
    · skip
      refine lv_iload_n hx hb dX5_goes_48 rfl (lv_at hl 3 rfl) ?_
      refine lv_iload hx hb dX5_goes_49 (lv_at hl 1 rfl) ?_
      refine n_cmp_ne (tgt := 76) hx hb dX5_goes_51 (by decide) (by omega) (by omega) (fun c51 => ?_) (fun c51 => ?_)
      · skip
        refine lv_iload hx hb dX5_goes_76 (lv_at hl 2 rfl) ?_
        refine lv_istore (lv' := [(4, .int (nI (pp % nc))), (6, .int (-1)), (5, .int (nI (tt / 2))), (3, .int (nI (pp / nc))), (0, .ref mh), (1, .int (nI pp)), (2, .int (nI tt))]) hx hb dX5_goes_78 hl (by decide) rfl (fun ls hl => ?_)
        refine lv_goto (tgt := 120) hx hb dX5_goes_80 (by decide) ?_
        refine lv_iload_n hx hb dX5_goes_120 rfl (lv_at hl 3 rfl) ?_
        refine lv_aload_n hx hb dX5_goes_121 rfl (lv_at hl 4 rfl) ?_
        refine va_get (D := G.1) (ci := 4) (v := .ref (md 0)) (C := RX5) (T := TX5) (N := 21) hx hb hts in_X5 hown hK hP 0 rfl rfl 0 (by decide) (hts _ q1727) (fun _ h9 => h9) rfl dX5_goes_122 ?_
        refine lv_iconst (v := nI 1) hx hb dX5_goes_125 (by decide) ?_
        refine r_iald hx hb hK hP 1 3 rfl rfl (by omega) (by decide) dX5_goes_126 ?_
        refine eq_i (y := nI nc) rfl ?_
        refine n_imul hx hb dX5_goes_127 ?_
        refine lv_iload hx hb dX5_goes_128 (lv_at hl 0 rfl) ?_
        refine n_iadd hx hb dX5_goes_130 ?_
        subst hQ
        exact ret_i hx hb hr hlk () (congrArg nI (by unfold gs; rw [if_pos c45, if_neg c51]; omega)) hP hD hS rfl dX5_goes_131
      · skip
        refine lv_iload hx hb dX5_goes_54 (lv_at hl 2 rfl) ?_
        refine lv_iload hx hb dX5_goes_56 (lv_at hl 0 rfl) ?_
        refine lv_iadd hx hb dX5_goes_58 ?_
        refine lv_aload_n hx hb dX5_goes_59 rfl (lv_at hl 4 rfl) ?_
        refine va_get (D := G.1) (ci := 4) (v := .ref (md 0)) (C := RX5) (T := TX5) (N := 21) hx hb hts in_X5 hown hK hP 0 rfl rfl 0 (by decide) (hts _ q1727) (fun _ h9 => h9) rfl dX5_goes_60 ?_
        refine lv_iconst (v := nI 1) hx hb dX5_goes_63 (by decide) ?_
        refine r_iald hx hb hK hP 1 3 rfl rfl (by omega) (by decide) dX5_goes_64 ?_
        refine eq_i (y := nI nc) rfl ?_
        refine lv_iadd hx hb dX5_goes_65 ?_
        refine eq_i (y := nI (pp % nc + (nc - 1))) (m1_add _ (by omega)) ?_
        refine lv_aload_n hx hb dX5_goes_66 rfl (lv_at hl 4 rfl) ?_
        refine va_get (D := G.1) (ci := 4) (v := .ref (md 0)) (C := RX5) (T := TX5) (N := 21) hx hb hts in_X5 hown hK hP 0 rfl rfl 0 (by decide) (hts _ q1727) (fun _ h9 => h9) rfl dX5_goes_67 ?_
        refine lv_iconst (v := nI 1) hx hb dX5_goes_70 (by decide) ?_
        refine r_iald hx hb hK hP 1 3 rfl rfl (by omega) (by decide) dX5_goes_71 ?_
        refine eq_i (y := nI nc) rfl ?_
        refine n_irem hx hb (by omega) (by omega) (by omega) dX5_goes_72 ?_
        refine lv_goto (tgt := 78) hx hb dX5_goes_73 (by decide) ?_
        refine lv_istore (lv' := [(4, .int (nI ((pp % nc + (nc - 1)) % nc))), (6, .int (-1)), (5, .int (nI (tt / 2))), (3, .int (nI (pp / nc))), (0, .ref mh), (1, .int (nI pp)), (2, .int (nI tt))]) hx hb dX5_goes_78 hl (by decide) rfl (fun ls hl => ?_)
        refine lv_goto (tgt := 120) hx hb dX5_goes_80 (by decide) ?_
        refine lv_iload_n hx hb dX5_goes_120 rfl (lv_at hl 3 rfl) ?_
        refine lv_aload_n hx hb dX5_goes_121 rfl (lv_at hl 4 rfl) ?_
        refine va_get (D := G.1) (ci := 4) (v := .ref (md 0)) (C := RX5) (T := TX5) (N := 21) hx hb hts in_X5 hown hK hP 0 rfl rfl 0 (by decide) (hts _ q1727) (fun _ h9 => h9) rfl dX5_goes_122 ?_
        refine lv_iconst (v := nI 1) hx hb dX5_goes_125 (by decide) ?_
        refine r_iald hx hb hK hP 1 3 rfl rfl (by omega) (by decide) dX5_goes_126 ?_
        refine eq_i (y := nI nc) rfl ?_
        refine n_imul hx hb dX5_goes_127 ?_
        refine lv_iload hx hb dX5_goes_128 (lv_at hl 0 rfl) ?_
        refine n_iadd hx hb dX5_goes_130 ?_
        subst hQ
        exact ret_i hx hb hr hlk () (congrArg nI (by unfold gs; rw [if_pos c45, if_pos c51]; first | (rw [if_pos c27, Nat.add_mod_right]; done) | (rw [if_neg (by omega)]; done))) hP hD hS rfl dX5_goes_131
  · skip
    refine lv_iconst (v := nI 1) hx hb dX5_goes_30 (by decide) ?_
    refine lv_goto (tgt := 35) hx hb dX5_goes_31 (by decide) ?_
    refine lv_istore (lv' := [(6, .int (nI 1)), (5, .int (nI (tt / 2))), (4, .int (nI (pp % nc))), (3, .int (nI (pp / nc))), (0, .ref mh), (1, .int (nI pp)), (2, .int (nI tt))]) hx hb dX5_goes_35 hl (by decide) rfl (fun ls hl => ?_)
    refine lv_iload hx hb dX5_goes_37 (lv_at hl 1 rfl) ?_
    refine lv_aload_n hx hb dX5_goes_39 rfl (lv_at hl 4 rfl) ?_
    refine va_get (D := G.1) (ci := 4) (v := .ref (md 0)) (C := RX5) (T := TX5) (N := 21) hx hb hts in_X5 hown hK hP 0 rfl rfl 0 (by decide) (hts _ q1727) (fun _ h9 => h9) rfl dX5_goes_40 ?_
    refine lv_iconst (v := nI 0) hx hb dX5_goes_43 (by decide) ?_
    refine r_iald hx hb hK hP 1 3 rfl rfl (by omega) (by decide) dX5_goes_44 ?_
    refine eq_i (y := nI nr) rfl ?_
    refine n_cmp_ge (tgt := 83) hx hb dX5_goes_45 (by decide) (by omega) (by omega) (fun c45 => ?_) (fun c45 => ?_)
    · skip
      refine lv_iload hx hb dX5_goes_83 (lv_at hl 2 rfl) ?_
      refine lv_iload hx hb dX5_goes_85 (lv_at hl 1 rfl) ?_
      refine lv_aload_n hx hb dX5_goes_87 rfl (lv_at hl 4 rfl) ?_
      refine va_get (D := G.1) (ci := 4) (v := .ref (md 0)) (C := RX5) (T := TX5) (N := 21) hx hb hts in_X5 hown hK hP 0 rfl rfl 0 (by decide) (hts _ q1727) (fun _ h9 => h9) rfl dX5_goes_88 ?_
      refine lv_iconst (v := nI 0) hx hb dX5_goes_91 (by decide) ?_
      refine r_iald hx hb hK hP 1 3 rfl rfl (by omega) (by decide) dX5_goes_92 ?_
      refine eq_i (y := nI nr) rfl ?_
      refine n_isub hx hb (by omega) dX5_goes_93 ?_
      refine n_cmp_ne (tgt := 118) hx hb dX5_goes_94 (by decide) (by omega) (by omega) (fun c94 => ?_) (fun c94 => ?_)
      · skip
        refine lv_iload_n hx hb dX5_goes_118 rfl (lv_at hl 3 rfl) ?_
        refine lv_istore_n (lv' := [(3, .int (nI (pp / nc))), (6, .int (nI 1)), (5, .int (nI (tt / 2))), (4, .int (nI (pp % nc))), (0, .ref mh), (1, .int (nI pp)), (2, .int (nI tt))]) hx hb dX5_goes_119 rfl hl (by decide) rfl (fun ls hl => ?_)
        refine lv_iload_n hx hb dX5_goes_120 rfl (lv_at hl 0 rfl) ?_
        refine lv_aload_n hx hb dX5_goes_121 rfl (lv_at hl 4 rfl) ?_
        refine va_get (D := G.1) (ci := 4) (v := .ref (md 0)) (C := RX5) (T := TX5) (N := 21) hx hb hts in_X5 hown hK hP 0 rfl rfl 0 (by decide) (hts _ q1727) (fun _ h9 => h9) rfl dX5_goes_122 ?_
        refine lv_iconst (v := nI 1) hx hb dX5_goes_125 (by decide) ?_
        refine r_iald hx hb hK hP 1 3 rfl rfl (by omega) (by decide) dX5_goes_126 ?_
        refine eq_i (y := nI nc) rfl ?_
        refine n_imul hx hb dX5_goes_127 ?_
        refine lv_iload hx hb dX5_goes_128 (lv_at hl 3 rfl) ?_
        refine n_iadd hx hb dX5_goes_130 ?_
        subst hQ
        exact ret_i hx hb hr hlk () (congrArg nI (by unfold gs; rw [if_neg (Nat.not_lt.mpr c45), if_neg c94]; omega)) hP hD hS rfl dX5_goes_131
      · skip
        refine lv_iload_n hx hb dX5_goes_97 rfl (lv_at hl 3 rfl) ?_
        refine lv_iload hx hb dX5_goes_98 (lv_at hl 0 rfl) ?_
        refine n_iadd hx hb dX5_goes_100 ?_
        refine lv_aload_n hx hb dX5_goes_101 rfl (lv_at hl 4 rfl) ?_
        refine va_get (D := G.1) (ci := 4) (v := .ref (md 0)) (C := RX5) (T := TX5) (N := 21) hx hb hts in_X5 hown hK hP 0 rfl rfl 0 (by decide) (hts _ q1727) (fun _ h9 => h9) rfl dX5_goes_102 ?_
        refine lv_iconst (v := nI 0) hx hb dX5_goes_105 (by decide) ?_
        refine r_iald hx hb hK hP 1 3 rfl rfl (by omega) (by decide) dX5_goes_106 ?_
        refine eq_i (y := nI nr) rfl ?_
        refine n_iadd hx hb dX5_goes_107 ?_
        refine lv_aload_n hx hb dX5_goes_108 rfl (lv_at hl 4 rfl) ?_
        refine va_get (D := G.1) (ci := 4) (v := .ref (md 0)) (C := RX5) (T := TX5) (N := 21) hx hb hts in_X5 hown hK hP 0 rfl rfl 0 (by decide) (hts _ q1727) (fun _ h9 => h9) rfl dX5_goes_109 ?_
        refine lv_iconst (v := nI 0) hx hb dX5_goes_112 (by decide) ?_
        refine r_iald hx hb hK hP 1 3 rfl rfl (by omega) (by decide) dX5_goes_113 ?_
        refine eq_i (y := nI nr) rfl ?_
        refine n_irem hx hb (by omega) (by omega) (by omega) dX5_goes_114 ?_
        refine lv_goto (tgt := 119) hx hb dX5_goes_115 (by decide) ?_
        refine lv_istore_n (lv' := [(3, .int (nI ((((pp / nc) + 1) + nr) % nr))), (6, .int (nI 1)), (5, .int (nI (tt / 2))), (4, .int (nI (pp % nc))), (0, .ref mh), (1, .int (nI pp)), (2, .int (nI tt))]) hx hb dX5_goes_119 rfl hl (by decide) rfl (fun ls hl => ?_)
        refine lv_iload_n hx hb dX5_goes_120 rfl (lv_at hl 0 rfl) ?_
        refine lv_aload_n hx hb dX5_goes_121 rfl (lv_at hl 4 rfl) ?_
        refine va_get (D := G.1) (ci := 4) (v := .ref (md 0)) (C := RX5) (T := TX5) (N := 21) hx hb hts in_X5 hown hK hP 0 rfl rfl 0 (by decide) (hts _ q1727) (fun _ h9 => h9) rfl dX5_goes_122 ?_
        refine lv_iconst (v := nI 1) hx hb dX5_goes_125 (by decide) ?_
        refine r_iald hx hb hK hP 1 3 rfl rfl (by omega) (by decide) dX5_goes_126 ?_
        refine eq_i (y := nI nc) rfl ?_
        refine n_imul hx hb dX5_goes_127 ?_
        refine lv_iload hx hb dX5_goes_128 (lv_at hl 3 rfl) ?_
        refine n_iadd hx hb dX5_goes_130 ?_
        subst hQ
        exact ret_i hx hb hr hlk () (congrArg nI (by unfold gs; rw [if_neg (Nat.not_lt.mpr c45), if_pos c94]; first | (rw [if_pos c27, Nat.add_mod_right]; done) | (rw [if_neg (by omega)]; done))) hP hD hS rfl dX5_goes_131
    · skip
      refine lv_iload_n hx hb dX5_goes_48 rfl (lv_at hl 3 rfl) ?_
      refine lv_iload hx hb dX5_goes_49 (lv_at hl 1 rfl) ?_
      refine n_cmp_ne (tgt := 76) hx hb dX5_goes_51 (by decide) (by omega) (by omega) (fun c51 => ?_) (fun c51 => ?_)
      · skip
        refine lv_iload hx hb dX5_goes_76 (lv_at hl 2 rfl) ?_
        refine lv_istore (lv' := [(4, .int (nI (pp % nc))), (6, .int (nI 1)), (5, .int (nI (tt / 2))), (3, .int (nI (pp / nc))), (0, .ref mh), (1, .int (nI pp)), (2, .int (nI tt))]) hx hb dX5_goes_78 hl (by decide) rfl (fun ls hl => ?_)
        refine lv_goto (tgt := 120) hx hb dX5_goes_80 (by decide) ?_
        refine lv_iload_n hx hb dX5_goes_120 rfl (lv_at hl 3 rfl) ?_
        refine lv_aload_n hx hb dX5_goes_121 rfl (lv_at hl 4 rfl) ?_
        refine va_get (D := G.1) (ci := 4) (v := .ref (md 0)) (C := RX5) (T := TX5) (N := 21) hx hb hts in_X5 hown hK hP 0 rfl rfl 0 (by decide) (hts _ q1727) (fun _ h9 => h9) rfl dX5_goes_122 ?_
        refine lv_iconst (v := nI 1) hx hb dX5_goes_125 (by decide) ?_
        refine r_iald hx hb hK hP 1 3 rfl rfl (by omega) (by decide) dX5_goes_126 ?_
        refine eq_i (y := nI nc) rfl ?_
        refine n_imul hx hb dX5_goes_127 ?_
        refine lv_iload hx hb dX5_goes_128 (lv_at hl 0 rfl) ?_
        refine n_iadd hx hb dX5_goes_130 ?_
        subst hQ
        exact ret_i hx hb hr hlk () (congrArg nI (by unfold gs; rw [if_pos c45, if_neg c51]; omega)) hP hD hS rfl dX5_goes_131
      · skip
        refine lv_iload hx hb dX5_goes_54 (lv_at hl 2 rfl) ?_
        refine lv_iload hx hb dX5_goes_56 (lv_at hl 0 rfl) ?_
        refine n_iadd hx hb dX5_goes_58 ?_
        refine lv_aload_n hx hb dX5_goes_59 rfl (lv_at hl 4 rfl) ?_
        refine va_get (D := G.1) (ci := 4) (v := .ref (md 0)) (C := RX5) (T := TX5) (N := 21) hx hb hts in_X5 hown hK hP 0 rfl rfl 0 (by decide) (hts _ q1727) (fun _ h9 => h9) rfl dX5_goes_60 ?_
        refine lv_iconst (v := nI 1) hx hb dX5_goes_63 (by decide) ?_
        refine r_iald hx hb hK hP 1 3 rfl rfl (by omega) (by decide) dX5_goes_64 ?_
        refine eq_i (y := nI nc) rfl ?_
        refine n_iadd hx hb dX5_goes_65 ?_
        refine lv_aload_n hx hb dX5_goes_66 rfl (lv_at hl 4 rfl) ?_
        refine va_get (D := G.1) (ci := 4) (v := .ref (md 0)) (C := RX5) (T := TX5) (N := 21) hx hb hts in_X5 hown hK hP 0 rfl rfl 0 (by decide) (hts _ q1727) (fun _ h9 => h9) rfl dX5_goes_67 ?_
        refine lv_iconst (v := nI 1) hx hb dX5_goes_70 (by decide) ?_
        refine r_iald hx hb hK hP 1 3 rfl rfl (by omega) (by decide) dX5_goes_71 ?_
        refine eq_i (y := nI nc) rfl ?_
        refine n_irem hx hb (by omega) (by omega) (by omega) dX5_goes_72 ?_
        refine lv_goto (tgt := 78) hx hb dX5_goes_73 (by decide) ?_
        refine lv_istore (lv' := [(4, .int (nI ((((pp % nc) + 1) + nc) % nc))), (6, .int (nI 1)), (5, .int (nI (tt / 2))), (3, .int (nI (pp / nc))), (0, .ref mh), (1, .int (nI pp)), (2, .int (nI tt))]) hx hb dX5_goes_78 hl (by decide) rfl (fun ls hl => ?_)
        refine lv_goto (tgt := 120) hx hb dX5_goes_80 (by decide) ?_
        refine lv_iload_n hx hb dX5_goes_120 rfl (lv_at hl 3 rfl) ?_
        refine lv_aload_n hx hb dX5_goes_121 rfl (lv_at hl 4 rfl) ?_
        refine va_get (D := G.1) (ci := 4) (v := .ref (md 0)) (C := RX5) (T := TX5) (N := 21) hx hb hts in_X5 hown hK hP 0 rfl rfl 0 (by decide) (hts _ q1727) (fun _ h9 => h9) rfl dX5_goes_122 ?_
        refine lv_iconst (v := nI 1) hx hb dX5_goes_125 (by decide) ?_
        refine r_iald hx hb hK hP 1 3 rfl rfl (by omega) (by decide) dX5_goes_126 ?_
        refine eq_i (y := nI nc) rfl ?_
        refine n_imul hx hb dX5_goes_127 ?_
        refine lv_iload hx hb dX5_goes_128 (lv_at hl 0 rfl) ?_
        refine n_iadd hx hb dX5_goes_130 ?_
        subst hQ
        exact ret_i hx hb hr hlk () (congrArg nI (by unfold gs; rw [if_pos c45, if_pos c51]; first | (rw [if_pos c27, Nat.add_mod_right]; done) | (rw [if_neg (by omega)]; done))) hP hD hS rfl dX5_goes_131
set_option maxHeartbeats 4000000 in
set_option maxRecDepth 100000 in
theorem m_X5_tries (l : Launch) (G : GG) (mh : Nat) (md : Nat → Nat) (nr : Nat) (nc : Nat) (pL : Nat → Nat) (pG : Nat → Nat) (pB : Nat → Bool) (pk : Nat → Int32) (bf : Nat → Int32) (hi : Nat → Int32) (sv : Nat → Int32) (ch : Nat) (hs : Bool) (inp : Nat → Nat) (ty : Nat) (er : Int32) (wy : Int32) (wd : Int32) (rf : Bool) (lt : Nat → Nat) (ln : Nat) (th : Int32) (tr : Nat → Nat) (mv : Nat → Nat) (fo : Int32) (sp : Nat) (wr : Bool) (td : Nat → Int32) (hd : 2 ≤ nr ∧ nr ≤ 3 ∧ 2 ≤ nc ∧ nc ≤ 3) (hLR : ∀ q, q < nr * nc → 97 ≤ pL q ∧ pL q ≤ 108) : MM l G yX5_tries cX5_tries 2 none ⟨1, 0, 0, 20⟩ [.ref mh] (MW G mh md nr nc pL pG pB pk bf hi sv ch hs inp ty er wy wd rf lt ln th tr mv fo sp wr td) (Qv_ G (fun (u : (Nat → Nat)) => ∀ q, q < nr * nc → u q = pL q - 97) (fun (u : (Nat → Nat)) => (MW G mh md nr nc pL pG pB pk bf hi sv ch hs inp ty er wy wd rf lt ln th u mv fo sp wr td))) := by
  refine MM.of (by decide) (Nat.le_of_ble_eq_true rfl) ?_
  intro p e s m args below meth cd A C hini hA hK hZ hP hD ls hl
  generalize hQ : MQ below ((Qv_ G (fun (u : (Nat → Nat)) => ∀ q, q < nr * nc → u q = pL q - 97) (fun (u : (Nat → Nat)) => (MW G mh md nr nc pL pG pB pk bf hi sv ch hs inp ty er wy wd rf lt ln th u mv fo sp wr td))) A) args s (⟨1, 0, 0, 20⟩ : Room).cells (⟨1, 0, 0, 20⟩ : Room).slots A = Q
  obtain ⟨hx, hb, hr, hts, hown, hlk, hml⟩ := C
  have hown : s.vm.findClass RX5 = some m.cls := hown
  have hS : va_S A s.heap s.heap [] := va_S.rf
  have hl : lv_has ls 2 [(0, .ref mh)] := hl
  have hmu := dm_mul hd
  refine lv_iconst (v := nI 0) hx hb dX5_tries_0 (by decide) ?_
  refine lv_istore_n (lv' := [(1, .int (nI 0)), (0, .ref mh)]) hx hb dX5_tries_1 rfl hl (by decide) rfl (fun ls hl => ?_)
  have lp2 : ∀ (f : Nat) (i : Nat) (M1 : Nat → Nat), nr * nc - i < f → (i ≤ nr * nc) → (∀ q, q < i → M1 q = pL q - 97) → ∀ (H : Heap) (locs : List Loc) (ls : Array Slot), va_P G.1 CL (MW G mh md nr nc pL pG pB pk bf hi sv ch hs inp ty er wy wd rf lt ln th M1 mv fo sp wr td) H → va_D A (MW G mh md nr nc pL pG pB pk bf hi sv ch hs inp ty er wy wd rf lt ln th M1 mv fo sp wr td) → va_S A s.heap H locs → lv_has ls 2 [(1, .int (nI i)), (0, .ref mh)] → W p l e (⟨1, 0, 0, 20⟩ : Room) s m args below meth cd H locs 0 0 Q (F0 m 2 ls []) := by
    intro f
    induction f with
    | zero => intro i M1 hf; exact absurd hf (Nat.not_lt_zero _)
    | succ f ih2 =>
      intro i M1 hf hi9 h1 H locs ls hP hD hS hl
      refine lv_iload_n hx hb dX5_tries_2 rfl (lv_at hl 0 rfl) ?_
      refine lv_aload_n hx hb dX5_tries_3 rfl (lv_at hl 1 rfl) ?_
      refine callVi (As := []) (rest := [.int (nI i)]) (wc := (MW G mh md nr nc pL pG pB pk bf hi sv ch hs inp ty er wy wd rf lt ln th M1 mv fo sp wr td)) (wr := ([] : va_W)) ⟨hx, hb, hml, hown, hts⟩ (m_X5_places l G mh md nr nc pL pG pB pk bf hi sv ch hs inp ty er wy wd rf lt ln th M1 mv fo sp wr td ) (cwV 0 hts (lw_V q1817 q1819 qs38 q105 q1820) rfl rfl rfl (by decide +kernel) ⟨Nat.le_of_ble_eq_true rfl, Nat.le_of_ble_eq_true rfl⟩) hK hZ hA hP hD hS [0, 1, 2, 3, 4, 5, 6, 7, 8, 9] [] rfl rfl (by decide) (by decide) (by decide) 0 4 rfl rfl rfl hl.1 (Nat.le_of_ble_eq_true rfl) ⟨Nat.le_of_ble_eq_true rfl, Nat.le_of_ble_eq_true rfl⟩ rfl dX5_tries_4 (fun r9 u9 H locs hw9 hP hD hS => ?_)
      subst hw9
      have hP : va_P G.1 CL (MW G mh md nr nc pL pG pB pk bf hi sv ch hs inp ty er wy wd rf lt ln th M1 mv fo sp wr td) _ := hP
      have hD : va_D A (MW G mh md nr nc pL pG pB pk bf hi sv ch hs inp ty er wy wd rf lt ln th M1 mv fo sp wr td) := hD
      refine n_cmp_ge (tgt := 31) hx hb dX5_tries_7 (by decide) (by omega) (by omega) (fun c7 => ?_) (fun c7 => ?_)
      · skip
        subst hQ
        exact ret_v hx hb hr hlk M1 (fun q hq => h1 q (by omega)) hP hD hS dX5_tries_31
      · skip
        refine lv_aload_n hx hb dX5_tries_10 rfl (lv_at hl 1 rfl) ?_
        refine va_get (D := G.1) (ci := 4) (v := .ref (md 6)) (C := RX5) (T := TX5) (N := 21) hx hb hts in_X5 hown hK hP 0 rfl rfl 15 (by decide) (hts _ q1742) (fun _ h9 => h9) rfl dX5_tries_11 ?_
        refine lv_iload_n hx hb dX5_tries_14 rfl (lv_at hl 0 rfl) ?_
        refine lv_aload_n hx hb dX5_tries_15 rfl (lv_at hl 1 rfl) ?_
        refine va_get (D := G.1) (ci := 4) (v := .ref (md 0)) (C := RX5) (T := TX5) (N := 21) hx hb hts in_X5 hown hK hP 0 rfl rfl 0 (by decide) (hts _ q1727) (fun _ h9 => h9) rfl dX5_tries_16 ?_
        refine lv_bipush (v := nI 14) hx hb dX5_tries_19 (by decide) ?_
        refine lv_iload_n hx hb dX5_tries_21 rfl (lv_at hl 0 rfl) ?_
        refine n_iadd hx hb dX5_tries_22 ?_
        refine r_iald hx hb hK hP 1 3 rfl rfl (by omega) (by decide) dX5_tries_23 ?_
        refine eq_i (y := nI (pL i - 97)) (gZ_c (by omega)) ?_
        refine n_iast hx hb hK hP hD hS 7 3 rfl rfl (by omega) (by decide) dX5_tries_24 (fun H locs hP hD hS => ?_)
        have hP : va_P G.1 CL (MW G mh md nr nc pL pG pB pk bf hi sv ch hs inp ty er wy wd rf lt ln th (va_up M1 i (pL i - 97)) mv fo sp wr td) _ := hP
        have hD : va_D A (MW G mh md nr nc pL pG pB pk bf hi sv ch hs inp ty er wy wd rf lt ln th (va_up M1 i (pL i - 97)) mv fo sp wr td) := hD
        refine lv_iinc (v := nI (i + 1)) (lv' := [(1, .int (nI (i + 1))), (0, .ref mh)]) hx hb dX5_tries_25 hl (k := 0) rfl (nI_add _ _) (by decide) rfl (fun ls hl => ?_)
        refine lv_goto (tgt := 2) hx hb dX5_tries_28 (by decide) ?_
        exact ih2 (i + 1) (va_up M1 i (pL i - 97)) (by omega) (by omega) (fun q hq => by unfold va_up; split; (rename_i z; rw [z]); exact h1 q (by omega)) _ _ _ hP hD hS (lv_sub hl [0, 1] rfl)
  exact lp2 _ 0 tr (Nat.lt_succ_self _) (by omega) (fun q hq => absurd hq (Nat.not_lt_zero _)) _ _ _ hP hD hS (lv_sub hl [0, 1] rfl)
set_option maxHeartbeats 4000000 in
set_option maxRecDepth 100000 in
theorem m_X5_turnsTried (l : Launch) (G : GG) (mh : Nat) (md : Nat → Nat) (nr : Nat) (nc : Nat) (pL : Nat → Nat) (pG : Nat → Nat) (pB : Nat → Bool) (pk : Nat → Int32) (bf : Nat → Int32) (hi : Nat → Int32) (sv : Nat → Int32) (ch : Nat) (hs : Bool) (inp : Nat → Nat) (ty : Nat) (er : Int32) (wy : Int32) (wd : Int32) (rf : Bool) (lt : Nat → Nat) (ln : Nat) (th : Int32) (tr : Nat → Nat) (mv : Nat → Nat) (fo : Int32) (sp : Nat) (wr : Bool) (td : Nat → Int32) (tt : Nat) (pT : Nat → Nat) (hd : 2 ≤ nr ∧ nr ≤ 3 ∧ 2 ≤ nc ∧ nc ≤ 3) (ht0 : tt < 2 * (nr + nc)) (hT : ∀ q, q < nr * nc → tr q = pT q - 97) : MM l G yX5_turnsTried cX5_turnsTried 3 none ⟨1, 0, 0, 26⟩ [.ref mh, .int (nI tt)] (MW G mh md nr nc pL pG pB pk bf hi sv ch hs inp ty er wy wd rf lt ln th tr mv fo sp wr td) (Qv_ G (fun (u : (Nat → Nat) × (Nat → Nat)) => ∀ q, q < nr * nc → u.1 q = tn nr nc tt pT q - 97) (fun (u : (Nat → Nat) × (Nat → Nat)) => (MW G mh md nr nc pL pG pB pk bf hi sv ch hs inp ty er wy wd rf lt ln th u.1 u.2 fo sp wr td))) := by
  refine MM.of (by decide) (Nat.le_of_ble_eq_true rfl) ?_
  intro p e s m args below meth cd A C hini hA hK hZ hP hD ls hl
  generalize hQ : MQ below ((Qv_ G (fun (u : (Nat → Nat) × (Nat → Nat)) => ∀ q, q < nr * nc → u.1 q = tn nr nc tt pT q - 97) (fun (u : (Nat → Nat) × (Nat → Nat)) => (MW G mh md nr nc pL pG pB pk bf hi sv ch hs inp ty er wy wd rf lt ln th u.1 u.2 fo sp wr td))) A) args s (⟨1, 0, 0, 26⟩ : Room).cells (⟨1, 0, 0, 26⟩ : Room).slots A = Q
  obtain ⟨hx, hb, hr, hts, hown, hlk, hml⟩ := C
  have hown : s.vm.findClass RX5 = some m.cls := hown
  have hS : va_S A s.heap s.heap [] := va_S.rf
  have hl : lv_has ls 3 [(0, .ref mh), (1, .int (nI tt))] := hl
  have hmu := dm_mul hd
  refine lv_iconst (v := nI 0) hx hb dX5_turnsTried_0 (by decide) ?_
  refine lv_istore_n (lv' := [(2, .int (nI 0)), (0, .ref mh), (1, .int (nI tt))]) hx hb dX5_turnsTried_1 rfl hl (by decide) rfl (fun ls hl => ?_)
  have lp2 : ∀ (f : Nat) (i : Nat) (M1 : Nat → Nat), nr * nc - i < f → (i ≤ nr * nc) → (∀ q, q < i → M1 (gs nr nc q tt) = pT q - 97) → ∀ (H : Heap) (locs : List Loc) (ls : Array Slot), va_P G.1 CL (MW G mh md nr nc pL pG pB pk bf hi sv ch hs inp ty er wy wd rf lt ln th tr M1 fo sp wr td) H → va_D A (MW G mh md nr nc pL pG pB pk bf hi sv ch hs inp ty er wy wd rf lt ln th tr M1 fo sp wr td) → va_S A s.heap H locs → lv_has ls 3 [(2, .int (nI i)), (0, .ref mh), (1, .int (nI tt))] → W p l e (⟨1, 0, 0, 26⟩ : Room) s m args below meth cd H locs 0 0 Q (F0 m 2 ls []) := by
    intro f
    induction f with
    | zero => intro i M1 hf; exact absurd hf (Nat.not_lt_zero _)
    | succ f ih2 =>
      intro i M1 hf hi9 h1 H locs ls hP hD hS hl
      refine lv_iload_n hx hb dX5_turnsTried_2 rfl (lv_at hl 0 rfl) ?_
      refine lv_aload_n hx hb dX5_turnsTried_3 rfl (lv_at hl 1 rfl) ?_
      refine callVi (As := []) (rest := [.int (nI i)]) (wc := (MW G mh md nr nc pL pG pB pk bf hi sv ch hs inp ty er wy wd rf lt ln th tr M1 fo sp wr td)) (wr := ([] : va_W)) ⟨hx, hb, hml, hown, hts⟩ (m_X5_places l G mh md nr nc pL pG pB pk bf hi sv ch hs inp ty er wy wd rf lt ln th tr M1 fo sp wr td ) (cwV 0 hts (lw_V q1817 q1819 qs38 q105 q1820) rfl rfl rfl (by decide +kernel) ⟨Nat.le_of_ble_eq_true rfl, Nat.le_of_ble_eq_true rfl⟩) hK hZ hA hP hD hS [0, 1, 2, 3, 4, 5, 6, 7, 8, 9] [] rfl rfl (by decide) (by decide) (by decide) 0 4 rfl rfl rfl hl.1 (Nat.le_of_ble_eq_true rfl) ⟨Nat.le_of_ble_eq_true rfl, Nat.le_of_ble_eq_true rfl⟩ rfl dX5_turnsTried_4 (fun r9 u9 H locs hw9 hP hD hS => ?_)
      subst hw9
      have hP : va_P G.1 CL (MW G mh md nr nc pL pG pB pk bf hi sv ch hs inp ty er wy wd rf lt ln th tr M1 fo sp wr td) _ := hP
      have hD : va_D A (MW G mh md nr nc pL pG pB pk bf hi sv ch hs inp ty er wy wd rf lt ln th tr M1 fo sp wr td) := hD
      refine n_cmp_ge (tgt := 33) hx hb dX5_turnsTried_7 (by decide) (by omega) (by omega) (fun c7 => ?_) (fun c7 => ?_)
      · skip
        refine lv_iconst (v := nI 0) hx hb dX5_turnsTried_33 (by decide) ?_
        refine lv_istore_n (lv' := [(2, .int (nI 0)), (0, .ref mh), (1, .int (nI tt))]) hx hb dX5_turnsTried_34 rfl hl (by decide) rfl (fun ls hl => ?_)
        have lp35 : ∀ (f : Nat) (j : Nat) (M2 : Nat → Nat), nr * nc - j < f → (j ≤ nr * nc) → (∀ q, q < j → M2 q = M1 q) → ∀ (H : Heap) (locs : List Loc) (ls : Array Slot), va_P G.1 CL (MW G mh md nr nc pL pG pB pk bf hi sv ch hs inp ty er wy wd rf lt ln th M2 M1 fo sp wr td) H → va_D A (MW G mh md nr nc pL pG pB pk bf hi sv ch hs inp ty er wy wd rf lt ln th M2 M1 fo sp wr td) → va_S A s.heap H locs → lv_has ls 3 [(2, .int (nI j)), (0, .ref mh), (1, .int (nI tt))] → W p l e (⟨1, 0, 0, 26⟩ : Room) s m args below meth cd H locs 0 0 Q (F0 m 35 ls []) := by
          intro f
          induction f with
          | zero => intro j M2 hf; exact absurd hf (Nat.not_lt_zero _)
          | succ f ih35 =>
            intro j M2 hf hj9 h2 H locs ls hP hD hS hl
            refine lv_iload_n hx hb dX5_turnsTried_35 rfl (lv_at hl 0 rfl) ?_
            refine lv_aload_n hx hb dX5_turnsTried_36 rfl (lv_at hl 1 rfl) ?_
            refine callVi (As := []) (rest := [.int (nI j)]) (wc := (MW G mh md nr nc pL pG pB pk bf hi sv ch hs inp ty er wy wd rf lt ln th M2 M1 fo sp wr td)) (wr := ([] : va_W)) ⟨hx, hb, hml, hown, hts⟩ (m_X5_places l G mh md nr nc pL pG pB pk bf hi sv ch hs inp ty er wy wd rf lt ln th M2 M1 fo sp wr td ) (cwV 0 hts (lw_V q1817 q1819 qs38 q105 q1820) rfl rfl rfl (by decide +kernel) ⟨Nat.le_of_ble_eq_true rfl, Nat.le_of_ble_eq_true rfl⟩) hK hZ hA hP hD hS [0, 1, 2, 3, 4, 5, 6, 7, 8, 9] [] rfl rfl (by decide) (by decide) (by decide) 0 4 rfl rfl rfl hl.1 (Nat.le_of_ble_eq_true rfl) ⟨Nat.le_of_ble_eq_true rfl, Nat.le_of_ble_eq_true rfl⟩ rfl dX5_turnsTried_37 (fun r9 u9 H locs hw9 hP hD hS => ?_)
            subst hw9
            have hP : va_P G.1 CL (MW G mh md nr nc pL pG pB pk bf hi sv ch hs inp ty er wy wd rf lt ln th M2 M1 fo sp wr td) _ := hP
            have hD : va_D A (MW G mh md nr nc pL pG pB pk bf hi sv ch hs inp ty er wy wd rf lt ln th M2 M1 fo sp wr td) := hD
            refine n_cmp_ge (tgt := 61) hx hb dX5_turnsTried_40 (by decide) (by omega) (by omega) (fun c40 => ?_) (fun c40 => ?_)
            · skip
              subst hQ
              exact ret_v hx hb hr hlk (⟨M2, M1⟩) (fun q hq => by have hb := (bk_lt hd ht0); have h3 := h1 (gs nr nc q (bk tt)) (by have := gs_lt hd hb.1 hq; omega); have h4 := gs_bk hd hb.1 hq; rw [hb.2.1] at h4; rw [h4] at h3; show M2 q = _; rw [h2 q (by omega), h3, tn, if_pos hq]) hP hD hS dX5_turnsTried_61
            · skip
              refine lv_aload_n hx hb dX5_turnsTried_43 rfl (lv_at hl 1 rfl) ?_
              refine va_get (D := G.1) (ci := 4) (v := .ref (md 6)) (C := RX5) (T := TX5) (N := 21) hx hb hts in_X5 hown hK hP 0 rfl rfl 15 (by decide) (hts _ q1742) (fun _ h9 => h9) rfl dX5_turnsTried_44 ?_
              refine lv_iload_n hx hb dX5_turnsTried_47 rfl (lv_at hl 0 rfl) ?_
              refine lv_aload_n hx hb dX5_turnsTried_48 rfl (lv_at hl 1 rfl) ?_
              refine va_get (D := G.1) (ci := 4) (v := .ref (md 7)) (C := RX5) (T := TX5) (N := 21) hx hb hts in_X5 hown hK hP 0 rfl rfl 16 (by decide) (hts _ q1743) (fun _ h9 => h9) rfl dX5_turnsTried_49 ?_
              refine lv_iload_n hx hb dX5_turnsTried_52 rfl (lv_at hl 0 rfl) ?_
              refine n_iald hx hb hK hP 8 3 rfl rfl (by omega) (by decide) dX5_turnsTried_53 ?_
              refine n_iast hx hb hK hP hD hS 7 3 rfl rfl (by omega) (by decide) dX5_turnsTried_54 (fun H locs hP hD hS => ?_)
              have hP : va_P G.1 CL (MW G mh md nr nc pL pG pB pk bf hi sv ch hs inp ty er wy wd rf lt ln th (va_up M2 j (M1 j)) M1 fo sp wr td) _ := hP
              have hD : va_D A (MW G mh md nr nc pL pG pB pk bf hi sv ch hs inp ty er wy wd rf lt ln th (va_up M2 j (M1 j)) M1 fo sp wr td) := hD
              refine lv_iinc (v := nI (j + 1)) (lv' := [(2, .int (nI (j + 1))), (0, .ref mh), (1, .int (nI tt))]) hx hb dX5_turnsTried_55 hl (k := 0) rfl (nI_add _ _) (by decide) rfl (fun ls hl => ?_)
              refine lv_goto (tgt := 35) hx hb dX5_turnsTried_58 (by decide) ?_
              exact ih35 (j + 1) (va_up M2 j (M1 j)) (by omega) (by omega) (fun q hq => by unfold va_up; split; (rename_i z; rw [z]); exact h2 q (by omega)) _ _ _ hP hD hS (lv_sub hl [0, 1, 2] rfl)
        exact lp35 _ 0 tr (Nat.lt_succ_self _) (by omega) (fun q hq => absurd hq (Nat.not_lt_zero _)) _ _ _ hP hD hS (lv_sub hl [0, 1, 2] rfl)
      · skip
        refine lv_aload_n hx hb dX5_turnsTried_10 rfl (lv_at hl 1 rfl) ?_
        refine va_get (D := G.1) (ci := 4) (v := .ref (md 7)) (C := RX5) (T := TX5) (N := 21) hx hb hts in_X5 hown hK hP 0 rfl rfl 16 (by decide) (hts _ q1743) (fun _ h9 => h9) rfl dX5_turnsTried_11 ?_
        refine lv_aload_n hx hb dX5_turnsTried_14 rfl (lv_at hl 1 rfl) ?_
        refine lv_iload_n hx hb dX5_turnsTried_15 rfl (lv_at hl 0 rfl) ?_
        refine lv_iload_n hx hb dX5_turnsTried_16 rfl (lv_at hl 2 rfl) ?_
        refine callVi (As := [.int (nI i), .int (nI tt)]) (rest := [.ref (md 7)]) (wc := (MW G mh md nr nc pL pG pB pk bf hi sv ch hs inp ty er wy wd rf lt ln th tr M1 fo sp wr td)) (wr := ([] : va_W)) ⟨hx, hb, hml, hown, hts⟩ (m_X5_goes l G mh md nr nc pL pG pB pk bf hi sv ch hs inp ty er wy wd rf lt ln th tr M1 fo sp wr td i tt (by first | assumption | omega) (by first | assumption | omega) (by first | assumption | omega)) (cwV 2 hts (lw_V q1907 q1909 qs56 q105 q1910) rfl rfl rfl (by decide +kernel) ⟨Nat.le_of_ble_eq_true rfl, Nat.le_of_ble_eq_true rfl⟩) hK hZ hA hP hD hS [0, 1, 2, 3, 4, 5, 6, 7, 8, 9] [] rfl rfl (by decide) (by decide) (by decide) 0 4 rfl rfl rfl hl.1 (Nat.le_of_ble_eq_true rfl) ⟨Nat.le_of_ble_eq_true rfl, Nat.le_of_ble_eq_true rfl⟩ rfl dX5_turnsTried_17 (fun r9 u9 H locs hw9 hP hD hS => ?_)
        subst hw9
        have hP : va_P G.1 CL (MW G mh md nr nc pL pG pB pk bf hi sv ch hs inp ty er wy wd rf lt ln th tr M1 fo sp wr td) _ := hP
        have hD : va_D A (MW G mh md nr nc pL pG pB pk bf hi sv ch hs inp ty er wy wd rf lt ln th tr M1 fo sp wr td) := hD
        refine lv_aload_n hx hb dX5_turnsTried_20 rfl (lv_at hl 1 rfl) ?_
        refine va_get (D := G.1) (ci := 4) (v := .ref (md 6)) (C := RX5) (T := TX5) (N := 21) hx hb hts in_X5 hown hK hP 0 rfl rfl 15 (by decide) (hts _ q1742) (fun _ h9 => h9) rfl dX5_turnsTried_21 ?_
        refine lv_iload_n hx hb dX5_turnsTried_24 rfl (lv_at hl 0 rfl) ?_
        refine n_iald hx hb hK hP 7 3 rfl rfl (by omega) (by decide) dX5_turnsTried_25 ?_
        refine n_iast hx hb hK hP hD hS 8 3 rfl rfl (by have := gs_lt hd ht0 (show i < nr * nc by omega); omega) (by decide) dX5_turnsTried_26 (fun H locs hP hD hS => ?_)
        have hP : va_P G.1 CL (MW G mh md nr nc pL pG pB pk bf hi sv ch hs inp ty er wy wd rf lt ln th tr (va_up M1 (gs nr nc i tt) (tr i)) fo sp wr td) _ := hP
        have hD : va_D A (MW G mh md nr nc pL pG pB pk bf hi sv ch hs inp ty er wy wd rf lt ln th tr (va_up M1 (gs nr nc i tt) (tr i)) fo sp wr td) := hD
        refine lv_iinc (v := nI (i + 1)) (lv' := [(2, .int (nI (i + 1))), (0, .ref mh), (1, .int (nI tt))]) hx hb dX5_turnsTried_27 hl (k := 0) rfl (nI_add _ _) (by decide) rfl (fun ls hl => ?_)
        refine lv_goto (tgt := 2) hx hb dX5_turnsTried_30 (by decide) ?_
        exact ih2 (i + 1) (va_up M1 (gs nr nc i tt) (tr i)) (by omega) (by omega) (mv_step hd ht0 (by omega) h1 (hT i (by omega))) _ _ _ hP hD hS (lv_sub hl [0, 1, 2] rfl)
  exact lp2 _ 0 mv (Nat.lt_succ_self _) (by omega) (fun q hq => absurd hq (Nat.not_lt_zero _)) _ _ _ hP hD hS (lv_sub hl [0, 1, 2] rfl)
set_option maxHeartbeats 4000000 in
set_option maxRecDepth 100000 in
theorem m_X5_homeTried (l : Launch) (G : GG) (mh : Nat) (md : Nat → Nat) (nr : Nat) (nc : Nat) (pL : Nat → Nat) (pG : Nat → Nat) (pB : Nat → Bool) (pk : Nat → Int32) (bf : Nat → Int32) (hi : Nat → Int32) (sv : Nat → Int32) (ch : Nat) (hs : Bool) (inp : Nat → Nat) (ty : Nat) (er : Int32) (wy : Int32) (wd : Int32) (rf : Bool) (lt : Nat → Nat) (ln : Nat) (th : Int32) (tr : Nat → Nat) (mv : Nat → Nat) (fo : Int32) (sp : Nat) (wr : Bool) (td : Nat → Int32) (pT : Nat → Nat) (hd : 2 ≤ nr ∧ nr ≤ 3 ∧ 2 ≤ nc ∧ nc ≤ 3) (hT : ∀ q, q < nr * nc → tr q = pT q - 97) (hTR : ∀ q, q < nr * nc → 97 ≤ pT q ∧ pT q ≤ 108) (hKR : ∀ q, q < nr * nc → pG q = 46 ∨ (97 ≤ pG q ∧ pG q ≤ 108)) : MM l G yX5_homeTried cX5_homeTried 3 (some .int) ⟨1, 0, 0, 20⟩ [.ref mh] (MW G mh md nr nc pL pG pB pk bf hi sv ch hs inp ty er wy wd rf lt ln th tr mv fo sp wr td) (Qi_ G (fun (r : Int32) (_ : Unit) => r = nI (hm nr nc pT pG)) (fun (_ : Unit) => (MW G mh md nr nc pL pG pB pk bf hi sv ch hs inp ty er wy wd rf lt ln th tr mv fo sp wr td))) := by
  refine MM.of (by decide) (Nat.le_of_ble_eq_true rfl) ?_
  intro p e s m args below meth cd A C hini hA hK hZ hP hD ls hl
  generalize hQ : MQ below ((Qi_ G (fun (r : Int32) (_ : Unit) => r = nI (hm nr nc pT pG)) (fun (_ : Unit) => (MW G mh md nr nc pL pG pB pk bf hi sv ch hs inp ty er wy wd rf lt ln th tr mv fo sp wr td))) A) args s (⟨1, 0, 0, 20⟩ : Room).cells (⟨1, 0, 0, 20⟩ : Room).slots A = Q
  obtain ⟨hx, hb, hr, hts, hown, hlk, hml⟩ := C
  have hown : s.vm.findClass RX5 = some m.cls := hown
  have hS : va_S A s.heap s.heap [] := va_S.rf
  have hl : lv_has ls 3 [(0, .ref mh)] := hl
  have hmu := dm_mul hd
  refine lv_iconst (v := nI 0) hx hb dX5_homeTried_0 (by decide) ?_
  refine lv_istore_n (lv' := [(1, .int (nI 0)), (0, .ref mh)]) hx hb dX5_homeTried_1 rfl hl (by decide) rfl (fun ls hl => ?_)
  refine lv_iconst (v := nI 0) hx hb dX5_homeTried_2 (by decide) ?_
  refine lv_istore_n (lv' := [(2, .int (nI 0)), (1, .int (nI 0)), (0, .ref mh)]) hx hb dX5_homeTried_3 rfl hl (by decide) rfl (fun ls hl => ?_)
  have lp4 : ∀ (f : Nat) (i : Nat) (n : Nat), nr * nc - i < f → (i ≤ nr * nc) → (n = cn (fun k => ft (pT k) (pG k)) i) → ∀ (H : Heap) (locs : List Loc) (ls : Array Slot), va_P G.1 CL (MW G mh md nr nc pL pG pB pk bf hi sv ch hs inp ty er wy wd rf lt ln th tr mv fo sp wr td) H → va_D A (MW G mh md nr nc pL pG pB pk bf hi sv ch hs inp ty er wy wd rf lt ln th tr mv fo sp wr td) → va_S A s.heap H locs → lv_has ls 3 [(2, .int (nI i)), (1, .int (nI n)), (0, .ref mh)] → W p l e (⟨1, 0, 0, 20⟩ : Room) s m args below meth cd H locs 0 0 Q (F0 m 4 ls []) := by
    intro f
    induction f with
    | zero => intro i n hf; exact absurd hf (Nat.not_lt_zero _)
    | succ f ih4 =>
      intro i n hf hi9 hn H locs ls hP hD hS hl
      refine lv_iload_n hx hb dX5_homeTried_4 rfl (lv_at hl 0 rfl) ?_
      refine lv_aload_n hx hb dX5_homeTried_5 rfl (lv_at hl 2 rfl) ?_
      refine callVi (As := []) (rest := [.int (nI i)]) (wc := (MW G mh md nr nc pL pG pB pk bf hi sv ch hs inp ty er wy wd rf lt ln th tr mv fo sp wr td)) (wr := ([] : va_W)) ⟨hx, hb, hml, hown, hts⟩ (m_X5_places l G mh md nr nc pL pG pB pk bf hi sv ch hs inp ty er wy wd rf lt ln th tr mv fo sp wr td ) (cwV 0 hts (lw_V q1817 q1819 qs38 q105 q1820) rfl rfl rfl (by decide +kernel) ⟨Nat.le_of_ble_eq_true rfl, Nat.le_of_ble_eq_true rfl⟩) hK hZ hA hP hD hS [0, 1, 2, 3, 4, 5, 6, 7, 8, 9] [] rfl rfl (by decide) (by decide) (by decide) 0 4 rfl rfl rfl hl.1 (Nat.le_of_ble_eq_true rfl) ⟨Nat.le_of_ble_eq_true rfl, Nat.le_of_ble_eq_true rfl⟩ rfl dX5_homeTried_6 (fun r9 u9 H locs hw9 hP hD hS => ?_)
      subst hw9
      have hP : va_P G.1 CL (MW G mh md nr nc pL pG pB pk bf hi sv ch hs inp ty er wy wd rf lt ln th tr mv fo sp wr td) _ := hP
      have hD : va_D A (MW G mh md nr nc pL pG pB pk bf hi sv ch hs inp ty er wy wd rf lt ln th tr mv fo sp wr td) := hD
      refine n_cmp_ge (tgt := 57) hx hb dX5_homeTried_9 (by decide) (by omega) (by omega) (fun c9 => ?_) (fun c9 => ?_)
      · skip
        refine lv_iload_n hx hb dX5_homeTried_57 rfl (lv_at hl 1 rfl) ?_
        subst hQ
        exact ret_i hx hb hr hlk () (by rw [hn, hm, show i = nr * nc by omega]) hP hD hS rfl dX5_homeTried_58
      · skip
        have hk9 := hKR i (by omega)
        have ht9 := hTR i (by omega)
        have hc9 : gk (pG i) = nI (tr i) ↔ pG i = pT i := by rw [hT i (by omega)]; exact fit_code ht9 hk9
        refine lv_iload_n hx hb dX5_homeTried_12 rfl (lv_at hl 1 rfl) ?_
        refine lv_aload_n hx hb dX5_homeTried_13 rfl (lv_at hl 2 rfl) ?_
        refine va_get (D := G.1) (ci := 4) (v := .ref (md 0)) (C := RX5) (T := TX5) (N := 21) hx hb hts in_X5 hown hK hP 0 rfl rfl 0 (by decide) (hts _ q1727) (fun _ h9 => h9) rfl dX5_homeTried_14 ?_
        refine lv_bipush (v := nI 23) hx hb dX5_homeTried_17 (by decide) ?_
        refine lv_iload_n hx hb dX5_homeTried_19 rfl (lv_at hl 0 rfl) ?_
        refine n_iadd hx hb dX5_homeTried_20 ?_
        refine r_iald hx hb hK hP 1 3 rfl rfl (by omega) (by decide) dX5_homeTried_21 ?_
        refine eq_i (y := (gk (pG i))) (gZ_k (by omega)) ?_
        refine lv_iconst (v := (-1)) hx hb dX5_homeTried_22 (by decide) ?_
        refine lv_icmp_eq (tgt := 44) hx hb dX5_homeTried_23 (by decide) (fun c23 => ?_) (fun c23 => ?_)
        · skip
          refine lv_iconst (v := nI 1) hx hb dX5_homeTried_44 (by decide) ?_
          refine lv_goto (tgt := 49) hx hb dX5_homeTried_45 (by decide) ?_
          refine n_iadd hx hb dX5_homeTried_49 ?_
          refine lv_istore_n (lv' := [(1, .int (nI (n + 1))), (2, .int (nI i)), (0, .ref mh)]) hx hb dX5_homeTried_50 rfl hl (by decide) rfl (fun ls hl => ?_)
          refine lv_iinc (v := nI (i + 1)) (lv' := [(2, .int (nI (i + 1))), (1, .int (nI (n + 1))), (0, .ref mh)]) hx hb dX5_homeTried_51 hl (k := 1) rfl (nI_add _ _) (by decide) rfl (fun ls hl => ?_)
          refine lv_goto (tgt := 4) hx hb dX5_homeTried_54 (by decide) ?_
          exact ih4 (i + 1) (n + 1) (by omega) (by omega) (by rw [hn]; exact cn_t (decide_eq_true (by first | exact Or.inl ((gk_m1 hk9).mp c23) | exact Or.inr (hc9.mp c41)))) _ _ _ hP hD hS (lv_sub hl [0, 1, 2] rfl)
        · skip
          refine lv_aload_n hx hb dX5_homeTried_26 rfl (lv_at hl 2 rfl) ?_
          refine va_get (D := G.1) (ci := 4) (v := .ref (md 0)) (C := RX5) (T := TX5) (N := 21) hx hb hts in_X5 hown hK hP 0 rfl rfl 0 (by decide) (hts _ q1727) (fun _ h9 => h9) rfl dX5_homeTried_27 ?_
          refine lv_bipush (v := nI 23) hx hb dX5_homeTried_30 (by decide) ?_
          refine lv_iload_n hx hb dX5_homeTried_32 rfl (lv_at hl 0 rfl) ?_
          refine n_iadd hx hb dX5_homeTried_33 ?_
          refine r_iald hx hb hK hP 1 3 rfl rfl (by omega) (by decide) dX5_homeTried_34 ?_
          refine eq_i (y := (gk (pG i))) (gZ_k (by omega)) ?_
          refine lv_aload_n hx hb dX5_homeTried_35 rfl (lv_at hl 2 rfl) ?_
          refine va_get (D := G.1) (ci := 4) (v := .ref (md 6)) (C := RX5) (T := TX5) (N := 21) hx hb hts in_X5 hown hK hP 0 rfl rfl 15 (by decide) (hts _ q1742) (fun _ h9 => h9) rfl dX5_homeTried_36 ?_
          refine lv_iload_n hx hb dX5_homeTried_39 rfl (lv_at hl 0 rfl) ?_
          refine n_iald hx hb hK hP 7 3 rfl rfl (by omega) (by decide) dX5_homeTried_40 ?_
          refine lv_icmp_ne (tgt := 48) hx hb dX5_homeTried_41 (by decide) (fun c41 => ?_) (fun c41 => ?_)
          · skip
            refine lv_iconst (v := nI 0) hx hb dX5_homeTried_48 (by decide) ?_
            refine n_iadd hx hb dX5_homeTried_49 ?_
            refine lv_istore_n (lv' := [(1, .int (nI (n + 0))), (2, .int (nI i)), (0, .ref mh)]) hx hb dX5_homeTried_50 rfl hl (by decide) rfl (fun ls hl => ?_)
            refine lv_iinc (v := nI (i + 1)) (lv' := [(2, .int (nI (i + 1))), (1, .int (nI (n + 0))), (0, .ref mh)]) hx hb dX5_homeTried_51 hl (k := 1) rfl (nI_add _ _) (by decide) rfl (fun ls hl => ?_)
            refine lv_goto (tgt := 4) hx hb dX5_homeTried_54 (by decide) ?_
            exact ih4 (i + 1) (n + 0) (by omega) (by omega) (by rw [hn]; exact cn_f (decide_eq_false (fun z => z.elim (fun y => c23 ((gk_m1 hk9).mpr y)) (fun y => c41 (hc9.mpr y))))) _ _ _ hP hD hS (lv_sub hl [0, 1, 2] rfl)
          · skip
            refine lv_iconst (v := nI 1) hx hb dX5_homeTried_44 (by decide) ?_
            refine lv_goto (tgt := 49) hx hb dX5_homeTried_45 (by decide) ?_
            refine n_iadd hx hb dX5_homeTried_49 ?_
            refine lv_istore_n (lv' := [(1, .int (nI (n + 1))), (2, .int (nI i)), (0, .ref mh)]) hx hb dX5_homeTried_50 rfl hl (by decide) rfl (fun ls hl => ?_)
            refine lv_iinc (v := nI (i + 1)) (lv' := [(2, .int (nI (i + 1))), (1, .int (nI (n + 1))), (0, .ref mh)]) hx hb dX5_homeTried_51 hl (k := 1) rfl (nI_add _ _) (by decide) rfl (fun ls hl => ?_)
            refine lv_goto (tgt := 4) hx hb dX5_homeTried_54 (by decide) ?_
            exact ih4 (i + 1) (n + 1) (by omega) (by omega) (by rw [hn]; exact cn_t (decide_eq_true (by first | exact Or.inl ((gk_m1 hk9).mp c23) | exact Or.inr (hc9.mp c41)))) _ _ _ hP hD hS (lv_sub hl [0, 1, 2] rfl)
  exact lp4 _ 0 0 (Nat.lt_succ_self _) (by omega) rfl _ _ _ hP hD hS (lv_sub hl [0, 1, 2] rfl)
set_option maxHeartbeats 4000000 in
set_option maxRecDepth 100000 in
theorem m_X5_homes (l : Launch) (G : GG) (mh : Nat) (md : Nat → Nat) (nr : Nat) (nc : Nat) (pL : Nat → Nat) (pG : Nat → Nat) (pB : Nat → Bool) (pk : Nat → Int32) (bf : Nat → Int32) (hi : Nat → Int32) (sv : Nat → Int32) (ch : Nat) (hs : Bool) (inp : Nat → Nat) (ty : Nat) (er : Int32) (wy : Int32) (wd : Int32) (rf : Bool) (lt : Nat → Nat) (ln : Nat) (th : Int32) (tr : Nat → Nat) (mv : Nat → Nat) (fo : Int32) (sp : Nat) (wr : Bool) (td : Nat → Int32) (hd : 2 ≤ nr ∧ nr ≤ 3 ∧ 2 ≤ nc ∧ nc ≤ 3) (hLR : ∀ q, q < nr * nc → 97 ≤ pL q ∧ pL q ≤ 108) (hKR : ∀ q, q < nr * nc → pG q = 46 ∨ (97 ≤ pG q ∧ pG q ≤ 108)) : MM l G yX5_homes cX5_homes 1 (some .int) ⟨2, 0, 0, 42⟩ [.ref mh] (MW G mh md nr nc pL pG pB pk bf hi sv ch hs inp ty er wy wd rf lt ln th tr mv fo sp wr td) (Qi_ G (fun (r : Int32) (u : (Nat → Nat)) => (r = nI (hm nr nc pL pG)) ∧ (∀ q, q < nr * nc → u q = pL q - 97)) (fun (u : (Nat → Nat)) => (MW G mh md nr nc pL pG pB pk bf hi sv ch hs inp ty er wy wd rf lt ln th u mv fo sp wr td))) := by
  refine MM.of (by decide) (Nat.le_of_ble_eq_true rfl) ?_
  intro p e s m args below meth cd A C hini hA hK hZ hP hD ls hl
  generalize hQ : MQ below ((Qi_ G (fun (r : Int32) (u : (Nat → Nat)) => (r = nI (hm nr nc pL pG)) ∧ (∀ q, q < nr * nc → u q = pL q - 97)) (fun (u : (Nat → Nat)) => (MW G mh md nr nc pL pG pB pk bf hi sv ch hs inp ty er wy wd rf lt ln th u mv fo sp wr td))) A) args s (⟨2, 0, 0, 42⟩ : Room).cells (⟨2, 0, 0, 42⟩ : Room).slots A = Q
  obtain ⟨hx, hb, hr, hts, hown, hlk, hml⟩ := C
  have hown : s.vm.findClass RX5 = some m.cls := hown
  have hS : va_S A s.heap s.heap [] := va_S.rf
  have hl : lv_has ls 1 [(0, .ref mh)] := hl
  have hmu := dm_mul hd
  refine lv_aload_n hx hb dX5_homes_0 rfl (lv_at hl 0 rfl) ?_
  refine callVv (As := []) (rest := []) (wc := (MW G mh md nr nc pL pG pB pk bf hi sv ch hs inp ty er wy wd rf lt ln th tr mv fo sp wr td)) (wr := ([] : va_W)) ⟨hx, hb, hml, hown, hts⟩ (m_X5_tries l G mh md nr nc pL pG pB pk bf hi sv ch hs inp ty er wy wd rf lt ln th tr mv fo sp wr td (by first | assumption | omega) (by first | assumption | omega)) (cwV 0 hts (lw_V q1891 q1893 qs52 q105 q1894) rfl rfl rfl (by decide +kernel) ⟨Nat.le_of_ble_eq_true rfl, Nat.le_of_ble_eq_true rfl⟩) hK hZ hA hP hD hS [0, 1, 2, 3, 4, 5, 6, 7, 8, 9] [] rfl rfl (by decide) (by decide) (by decide) 0 4 rfl rfl rfl hl.1 (Nat.le_of_ble_eq_true rfl) ⟨Nat.le_of_ble_eq_true rfl, Nat.le_of_ble_eq_true rfl⟩ rfl dX5_homes_1 (fun u9 H locs hw9 hP hD hS => ?_)
  obtain ⟨tr1_1, e9⟩ : ∃ z, z = u9 := ⟨_, rfl⟩
  subst e9
  have hw1 : ∀ q, q < nr * nc → tr1_1 q = pL q - 97 := hw9
  have hP : va_P G.1 CL (MW G mh md nr nc pL pG pB pk bf hi sv ch hs inp ty er wy wd rf lt ln th tr1_1 mv fo sp wr td) _ := hP
  have hD : va_D A (MW G mh md nr nc pL pG pB pk bf hi sv ch hs inp ty er wy wd rf lt ln th tr1_1 mv fo sp wr td) := hD
  refine lv_aload_n hx hb dX5_homes_4 rfl (lv_at hl 0 rfl) ?_
  refine callVi (As := []) (rest := []) (wc := (MW G mh md nr nc pL pG pB pk bf hi sv ch hs inp ty er wy wd rf lt ln th tr1_1 mv fo sp wr td)) (wr := ([] : va_W)) ⟨hx, hb, hml, hown, hts⟩ (m_X5_homeTried l G mh md nr nc pL pG pB pk bf hi sv ch hs inp ty er wy wd rf lt ln th tr1_1 mv fo sp wr td pL (by first | assumption | omega) hw1 hLR (by first | assumption | omega)) (cwV 0 hts (lw_V q1895 q1897 qs53 q105 q1898) rfl rfl rfl (by decide +kernel) ⟨Nat.le_of_ble_eq_true rfl, Nat.le_of_ble_eq_true rfl⟩) hK hZ hA hP hD hS [0, 1, 2, 3, 4, 5, 6, 7, 8, 9] [] rfl rfl (by decide) (by decide) (by decide) 0 4 rfl rfl rfl hl.1 (Nat.le_of_ble_eq_true rfl) ⟨Nat.le_of_ble_eq_true rfl, Nat.le_of_ble_eq_true rfl⟩ rfl dX5_homes_5 (fun r9 u9 H locs hw9 hP hD hS => ?_)
  subst hw9
  have hP : va_P G.1 CL (MW G mh md nr nc pL pG pB pk bf hi sv ch hs inp ty er wy wd rf lt ln th tr1_1 mv fo sp wr td) _ := hP
  have hD : va_D A (MW G mh md nr nc pL pG pB pk bf hi sv ch hs inp ty er wy wd rf lt ln th tr1_1 mv fo sp wr td) := hD
  subst hQ
  exact ret_i hx hb hr hlk tr1_1 ⟨rfl, hw1⟩ hP hD hS rfl dX5_homes_8
set_option maxHeartbeats 4000000 in
set_option maxRecDepth 100000 in
theorem m_X5_takesTried (l : Launch) (G : GG) (mh : Nat) (md : Nat → Nat) (nr : Nat) (nc : Nat) (pL : Nat → Nat) (pG : Nat → Nat) (pB : Nat → Bool) (pk : Nat → Int32) (bf : Nat → Int32) (hi : Nat → Int32) (sv : Nat → Int32) (ch : Nat) (hs : Bool) (inp : Nat → Nat) (ty : Nat) (er : Int32) (wy : Int32) (wd : Int32) (rf : Bool) (lt : Nat → Nat) (ln : Nat) (th : Int32) (tr : Nat → Nat) (mv : Nat → Nat) (fo : Int32) (sp : Nat) (wr : Bool) (td : Nat → Int32) (pT : Nat → Nat) (hd : 2 ≤ nr ∧ nr ≤ 3 ∧ 2 ≤ nc ∧ nc ≤ 3) (hT : ∀ q, q < nr * nc → tr q = pT q - 97) (hTR : ∀ q, q < nr * nc → 97 ≤ pT q ∧ pT q ≤ 108) : MM l G yX5_takesTried cX5_takesTried 2 none ⟨1, 0, 0, 20⟩ [.ref mh] (MW G mh md nr nc pL pG pB pk bf hi sv ch hs inp ty er wy wd rf lt ln th tr mv fo sp wr td) (Qv_ G (fun (u : (Nat → Nat)) => (∀ q, q < nr * nc → u q = pT q) ∧ (∀ q, nr * nc ≤ q → u q = pL q)) (fun (u : (Nat → Nat)) => (MW G mh md nr nc u pG pB pk bf hi sv ch hs inp ty er wy wd rf lt ln th tr mv fo sp wr td))) := by
  refine MM.of (by decide) (Nat.le_of_ble_eq_true rfl) ?_
  intro p e s m args below meth cd A C hini hA hK hZ hP hD ls hl
  generalize hQ : MQ below ((Qv_ G (fun (u : (Nat → Nat)) => (∀ q, q < nr * nc → u q = pT q) ∧ (∀ q, nr * nc ≤ q → u q = pL q)) (fun (u : (Nat → Nat)) => (MW G mh md nr nc u pG pB pk bf hi sv ch hs inp ty er wy wd rf lt ln th tr mv fo sp wr td))) A) args s (⟨1, 0, 0, 20⟩ : Room).cells (⟨1, 0, 0, 20⟩ : Room).slots A = Q
  obtain ⟨hx, hb, hr, hts, hown, hlk, hml⟩ := C
  have hown : s.vm.findClass RX5 = some m.cls := hown
  have hS : va_S A s.heap s.heap [] := va_S.rf
  have hl : lv_has ls 2 [(0, .ref mh)] := hl
  have hmu := dm_mul hd
  refine lv_iconst (v := nI 0) hx hb dX5_takesTried_0 (by decide) ?_
  refine lv_istore_n (lv' := [(1, .int (nI 0)), (0, .ref mh)]) hx hb dX5_takesTried_1 rfl hl (by decide) rfl (fun ls hl => ?_)
  have lp2 : ∀ (f : Nat) (i : Nat) (M1 : Nat → Nat), nr * nc - i < f → (i ≤ nr * nc) → (∀ q, q < i → M1 q = pT q) → (∀ q, nr * nc ≤ q → M1 q = pL q) → ∀ (H : Heap) (locs : List Loc) (ls : Array Slot), va_P G.1 CL (MW G mh md nr nc M1 pG pB pk bf hi sv ch hs inp ty er wy wd rf lt ln th tr mv fo sp wr td) H → va_D A (MW G mh md nr nc M1 pG pB pk bf hi sv ch hs inp ty er wy wd rf lt ln th tr mv fo sp wr td) → va_S A s.heap H locs → lv_has ls 2 [(1, .int (nI i)), (0, .ref mh)] → W p l e (⟨1, 0, 0, 20⟩ : Room) s m args below meth cd H locs 0 0 Q (F0 m 2 ls []) := by
    intro f
    induction f with
    | zero => intro i M1 hf; exact absurd hf (Nat.not_lt_zero _)
    | succ f ih2 =>
      intro i M1 hf hi9 h1 h2 H locs ls hP hD hS hl
      refine lv_iload_n hx hb dX5_takesTried_2 rfl (lv_at hl 0 rfl) ?_
      refine lv_aload_n hx hb dX5_takesTried_3 rfl (lv_at hl 1 rfl) ?_
      refine callVi (As := []) (rest := [.int (nI i)]) (wc := (MW G mh md nr nc M1 pG pB pk bf hi sv ch hs inp ty er wy wd rf lt ln th tr mv fo sp wr td)) (wr := ([] : va_W)) ⟨hx, hb, hml, hown, hts⟩ (m_X5_places l G mh md nr nc M1 pG pB pk bf hi sv ch hs inp ty er wy wd rf lt ln th tr mv fo sp wr td ) (cwV 0 hts (lw_V q1817 q1819 qs38 q105 q1820) rfl rfl rfl (by decide +kernel) ⟨Nat.le_of_ble_eq_true rfl, Nat.le_of_ble_eq_true rfl⟩) hK hZ hA hP hD hS [0, 1, 2, 3, 4, 5, 6, 7, 8, 9] [] rfl rfl (by decide) (by decide) (by decide) 0 4 rfl rfl rfl hl.1 (Nat.le_of_ble_eq_true rfl) ⟨Nat.le_of_ble_eq_true rfl, Nat.le_of_ble_eq_true rfl⟩ rfl dX5_takesTried_4 (fun r9 u9 H locs hw9 hP hD hS => ?_)
      subst hw9
      have hP : va_P G.1 CL (MW G mh md nr nc M1 pG pB pk bf hi sv ch hs inp ty er wy wd rf lt ln th tr mv fo sp wr td) _ := hP
      have hD : va_D A (MW G mh md nr nc M1 pG pB pk bf hi sv ch hs inp ty er wy wd rf lt ln th tr mv fo sp wr td) := hD
      refine n_cmp_ge (tgt := 31) hx hb dX5_takesTried_7 (by decide) (by omega) (by omega) (fun c7 => ?_) (fun c7 => ?_)
      · skip
        subst hQ
        exact ret_v hx hb hr hlk M1 ⟨fun q hq => h1 q (by omega), h2⟩ hP hD hS dX5_takesTried_31
      · skip
        refine lv_aload_n hx hb dX5_takesTried_10 rfl (lv_at hl 1 rfl) ?_
        refine va_get (D := G.1) (ci := 4) (v := .ref (md 0)) (C := RX5) (T := TX5) (N := 21) hx hb hts in_X5 hown hK hP 0 rfl rfl 0 (by decide) (hts _ q1727) (fun _ h9 => h9) rfl dX5_takesTried_11 ?_
        refine lv_bipush (v := nI 14) hx hb dX5_takesTried_14 (by decide) ?_
        refine lv_iload_n hx hb dX5_takesTried_16 rfl (lv_at hl 0 rfl) ?_
        refine n_iadd hx hb dX5_takesTried_17 ?_
        refine lv_aload_n hx hb dX5_takesTried_18 rfl (lv_at hl 1 rfl) ?_
        refine va_get (D := G.1) (ci := 4) (v := .ref (md 6)) (C := RX5) (T := TX5) (N := 21) hx hb hts in_X5 hown hK hP 0 rfl rfl 15 (by decide) (hts _ q1742) (fun _ h9 => h9) rfl dX5_takesTried_19 ?_
        refine lv_iload_n hx hb dX5_takesTried_22 rfl (lv_at hl 0 rfl) ?_
        refine n_iald hx hb hK hP 7 3 rfl rfl (by omega) (by decide) dX5_takesTried_23 ?_
        refine r_iast hx hb hK hP hD hS 1 3 rfl rfl (by omega) (by decide) dX5_takesTried_24 (fun H locs hP hD hS => ?_)
        rw [show va_up (gZ (nr, nc, M1, pG, pB, pk)) (14 + i) (nI (tr i)) = (gZ (nr, nc, (va_up M1 i (97 + (tr i))), pG, pB, pk)) from (gZ_sc (by omega))] at hP hD
        have hP : va_P G.1 CL (MW G mh md nr nc (va_up M1 i (97 + (tr i))) pG pB pk bf hi sv ch hs inp ty er wy wd rf lt ln th tr mv fo sp wr td) _ := hP
        have hD : va_D A (MW G mh md nr nc (va_up M1 i (97 + (tr i))) pG pB pk bf hi sv ch hs inp ty er wy wd rf lt ln th tr mv fo sp wr td) := hD
        refine lv_iinc (v := nI (i + 1)) (lv' := [(1, .int (nI (i + 1))), (0, .ref mh)]) hx hb dX5_takesTried_25 hl (k := 0) rfl (nI_add _ _) (by decide) rfl (fun ls hl => ?_)
        refine lv_goto (tgt := 2) hx hb dX5_takesTried_28 (by decide) ?_
        exact ih2 (i + 1) (va_up M1 i (97 + (tr i))) (by omega) (by omega) (fun q hq => by unfold va_up; split; (rename_i z; rw [z, hT i (by omega)]; have := hTR i (by omega); omega); exact h1 q (by omega)) (fun q hq => by unfold va_up; rw [if_neg (by omega)]; exact h2 q hq) _ _ _ hP hD hS (lv_sub hl [0, 1] rfl)
  exact lp2 _ 0 pL (Nat.lt_succ_self _) (by omega) (fun q hq => absurd hq (Nat.not_lt_zero _)) (fun q hq => rfl) _ _ _ hP hD hS (lv_sub hl [0, 1] rfl)
