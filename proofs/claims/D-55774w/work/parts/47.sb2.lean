/-- a builder's bytes tell its chars -/
def SBR (cap : Nat) (cd : Bool) (n : Nat) (f tx : Nat → Nat) : Prop := n ≤ 60 ∧ (cd = false → n ≤ cap ∧ cap ≤ 122 ∧ ∀ i, i < n → f i % 256 = tx i) ∧ (cd = true → n * 2 ≤ cap ∧ cap ≤ 246 ∧ cap % 2 = 0 ∧ ∀ i, i < n → f (i * 2) % 256 + f (i * 2 + 1) % 256 * 256 = tx i)
theorem inf_st {f g : Nat → Nat} {i : Nat} (h : ∀ j, j < i → g (j * 2) % 256 + g (j * 2 + 1) % 256 * 256 = f j % 256) : ∀ j, j < i + 1 → (va_up (va_up g (i * 2) (f i % 256)) (i * 2 + 1) (f i % 256 / 256)) (j * 2) % 256 + (va_up (va_up g (i * 2) (f i % 256)) (i * 2 + 1) (f i % 256 / 256)) (j * 2 + 1) % 256 * 256 = f j % 256 := by
  intro j hj
  have hm : f i % 256 / 256 = 0 := Nat.div_eq_of_lt (Nat.mod_lt _ (by decide))
  unfold va_up
  by_cases e : j = i
  · subst e
    rw [if_neg (by omega), if_pos rfl, if_pos rfl, hm]; omega
  · rw [if_neg (by omega), if_neg (by omega), if_neg (by omega), if_neg (by omega)]; exact h j (by omega)
set_option maxHeartbeats 4000000 in
set_option maxRecDepth 100000 in
theorem m_J22_checkFromIndexSize (l : Launch) (G : GG) (i : Nat) (x : Nat) (z : Nat) (o : Option Nat) (hi : i + x ≤ z) (hz : z < 1073741824) : MM l G yJ22_checkFromIndexSize cJ22_checkFromIndexSize 4 (some .int) ⟨0, 0, 0, 0⟩ [.int (nI i), .int (nI x), .int (nI z), (va_rf o)] ([] : va_W) (Qi_ G (fun (r : Int32) (_ : Unit) => r = nI i) (fun (_ : Unit) => ([] : va_W))) := by
  rcases o with _ | o
  · skip
    refine MM.of (by decide) (Nat.le_of_ble_eq_true rfl) ?_
    intro p e s m args below meth cd A C hini hA hK hZ hP hD ls hl
    generalize hQ : MQ below ((Qi_ G (fun (r : Int32) (_ : Unit) => r = nI i) (fun (_ : Unit) => ([] : va_W))) A) args s (⟨0, 0, 0, 0⟩ : Room).cells (⟨0, 0, 0, 0⟩ : Room).slots A = Q
    obtain ⟨hx, hb, hr, hts, hown, hlk, hml⟩ := C
    have hown : s.vm.findClass RJ22 = some m.cls := hown
    have hS : va_S A s.heap s.heap [] := va_S.rf
    have hl : lv_has ls 4 [(0, .int (nI i)), (1, .int (nI x)), (2, .int (nI z)), (3, .null)] := hl
    refine lv_iload_n hx hb dJ22_checkFromIndexSize_0 rfl (lv_at hl 2 rfl) ?_
    refine lv_iload_n hx hb dJ22_checkFromIndexSize_1 rfl (lv_at hl 0 rfl) ?_
    refine lv_ior hx hb dJ22_checkFromIndexSize_2 ?_
    refine eq_i (y := nI (z ||| i)) (nI_or (by omega) (by omega)) ?_
    refine lv_iload_n hx hb dJ22_checkFromIndexSize_3 rfl (lv_at hl 1 rfl) ?_
    refine lv_ior hx hb dJ22_checkFromIndexSize_4 ?_
    refine eq_i (y := nI ((z ||| i) ||| x)) (nI_or (or31 (by omega) (by omega)) (by omega)) ?_
    refine n_if_lt (tgt := 15) hx hb dJ22_checkFromIndexSize_5 (by decide) (or31 (or31 (by omega) (by omega)) (by omega)) ?_
    refine lv_iload_n hx hb dJ22_checkFromIndexSize_8 rfl (lv_at hl 1 rfl) ?_
    refine lv_iload_n hx hb dJ22_checkFromIndexSize_9 rfl (lv_at hl 2 rfl) ?_
    refine lv_iload_n hx hb dJ22_checkFromIndexSize_10 rfl (lv_at hl 0 rfl) ?_
    refine n_isub hx hb (by omega) dJ22_checkFromIndexSize_11 ?_
    refine n_cmp_le (tgt := 23) hx hb dJ22_checkFromIndexSize_12 (by decide) (by omega) (by omega) (fun c12 => ?_) (fun c12 => ?_)
    rotate_left
    · exact absurd c12 (by omega)
    refine lv_iload_n hx hb dJ22_checkFromIndexSize_23 rfl (lv_at hl 0 rfl) ?_
    subst hQ
    exact ret_i hx hb hr hlk () rfl hP hD hS rfl dJ22_checkFromIndexSize_24
  · skip
    refine MM.of (by decide) (Nat.le_of_ble_eq_true rfl) ?_
    intro p e s m args below meth cd A C hini hA hK hZ hP hD ls hl
    generalize hQ : MQ below ((Qi_ G (fun (r : Int32) (_ : Unit) => r = nI i) (fun (_ : Unit) => ([] : va_W))) A) args s (⟨0, 0, 0, 0⟩ : Room).cells (⟨0, 0, 0, 0⟩ : Room).slots A = Q
    obtain ⟨hx, hb, hr, hts, hown, hlk, hml⟩ := C
    have hown : s.vm.findClass RJ22 = some m.cls := hown
    have hS : va_S A s.heap s.heap [] := va_S.rf
    have hl : lv_has ls 4 [(0, .int (nI i)), (1, .int (nI x)), (2, .int (nI z)), (3, .ref o)] := hl
    refine lv_iload_n hx hb dJ22_checkFromIndexSize_0 rfl (lv_at hl 2 rfl) ?_
    refine lv_iload_n hx hb dJ22_checkFromIndexSize_1 rfl (lv_at hl 0 rfl) ?_
    refine lv_ior hx hb dJ22_checkFromIndexSize_2 ?_
    refine eq_i (y := nI (z ||| i)) (nI_or (by omega) (by omega)) ?_
    refine lv_iload_n hx hb dJ22_checkFromIndexSize_3 rfl (lv_at hl 1 rfl) ?_
    refine lv_ior hx hb dJ22_checkFromIndexSize_4 ?_
    refine eq_i (y := nI ((z ||| i) ||| x)) (nI_or (or31 (by omega) (by omega)) (by omega)) ?_
    refine n_if_lt (tgt := 15) hx hb dJ22_checkFromIndexSize_5 (by decide) (or31 (or31 (by omega) (by omega)) (by omega)) ?_
    refine lv_iload_n hx hb dJ22_checkFromIndexSize_8 rfl (lv_at hl 1 rfl) ?_
    refine lv_iload_n hx hb dJ22_checkFromIndexSize_9 rfl (lv_at hl 2 rfl) ?_
    refine lv_iload_n hx hb dJ22_checkFromIndexSize_10 rfl (lv_at hl 0 rfl) ?_
    refine n_isub hx hb (by omega) dJ22_checkFromIndexSize_11 ?_
    refine n_cmp_le (tgt := 23) hx hb dJ22_checkFromIndexSize_12 (by decide) (by omega) (by omega) (fun c12 => ?_) (fun c12 => ?_)
    rotate_left
    · exact absurd c12 (by omega)
    refine lv_iload_n hx hb dJ22_checkFromIndexSize_23 rfl (lv_at hl 0 rfl) ?_
    subst hQ
    exact ret_i hx hb hr hlk () rfl hP hD hS rfl dJ22_checkFromIndexSize_24
set_option maxHeartbeats 4000000 in
set_option maxRecDepth 100000 in
theorem m_J4_checkBoundsOffCount (l : Launch) (G : GG) (i : Nat) (x : Nat) (z : Nat) (hi : i + x ≤ z) (hz : z < 1073741824) : MM l G yJ4_checkBoundsOffCount cJ4_checkBoundsOffCount 3 (some .int) ⟨1, 0, 0, 23⟩ [.int (nI i), .int (nI x), .int (nI z)] ([] : va_W) (Qi_ G (fun (r : Int32) (_ : Unit) => r = nI i) (fun (_ : Unit) => ([] : va_W))) := by
  refine MM.of (by decide) (Nat.le_of_ble_eq_true rfl) ?_
  intro p e s m args below meth cd A C hini hA hK hZ hP hD ls hl
  generalize hQ : MQ below ((Qi_ G (fun (r : Int32) (_ : Unit) => r = nI i) (fun (_ : Unit) => ([] : va_W))) A) args s (⟨1, 0, 0, 23⟩ : Room).cells (⟨1, 0, 0, 23⟩ : Room).slots A = Q
  obtain ⟨hx, hb, hr, hts, hown, hlk, hml⟩ := C
  have hown : s.vm.findClass RJ4 = some m.cls := hown
  have hS : va_S A s.heap s.heap [] := va_S.rf
  have hl : lv_has ls 3 [(0, .int (nI i)), (1, .int (nI x)), (2, .int (nI z))] := hl
  refine lv_iload_n hx hb dJ4_checkBoundsOffCount_0 rfl (lv_at hl 0 rfl) ?_
  refine lv_iload_n hx hb dJ4_checkBoundsOffCount_1 rfl (lv_at hl 1 rfl) ?_
  refine lv_iload_n hx hb dJ4_checkBoundsOffCount_2 rfl (lv_at hl 2 rfl) ?_
  obtain ⟨oF9, hoF9⟩ := hZ.zSF
  refine get_s (G := G) hx hb hoF9 hS hown (hts _ q753) dJ4_checkBoundsOffCount_3 ?_
  refine callSi (As := [.int (nI i), .int (nI x), .int (nI z), (va_rf oF9)]) (rest := []) (wc := ([] : va_W)) (wr := ([] : va_W)) ⟨hx, hb, hml, hown, hts⟩ (m_J22_checkFromIndexSize l G i x z oF9 (by first | assumption | omega) (by first | assumption | omega)) (va_cwS 4 hts (lw_S q801 q802 q119 q803) rfl rfl rfl (by decide +kernel) ⟨Nat.le_of_ble_eq_true rfl, Nat.le_of_ble_eq_true rfl⟩) hK hZ hA hP hD hS [] [] rfl rfl (by decide) (by decide) (by decide) rfl hl.1 (Nat.le_of_ble_eq_true rfl) ⟨Nat.le_of_ble_eq_true rfl, Nat.le_of_ble_eq_true rfl⟩ rfl dJ4_checkBoundsOffCount_6 (fun r9 u9 H locs hw9 hP hD hS => ?_)
  subst hw9
  have hP : va_P G.1 CL ([] : va_W) _ := hP
  have hD : va_D A ([] : va_W) := hD
  subst hQ
  exact ret_i hx hb hr hlk () rfl hP hD hS rfl dJ4_checkBoundsOffCount_9
set_option maxHeartbeats 4000000 in
set_option maxRecDepth 100000 in
theorem m_J5_checkBoundsOffCount (l : Launch) (G : GG) (va : Nat) (cap : Nat) (yf : Nat → Nat) (i : Nat) (x : Nat) (hi : i + x ≤ cap / 2) (hz : cap < 1073741824) : MM l G yJ5_checkBoundsOffCount cJ5_checkBoundsOffCount 3 none ⟨2, 0, 0, 45⟩ [.int (nI i), .int (nI x), .ref va] (BAW G va cap yf) (Qv_ G (fun (_ : Unit) => True) (fun (_ : Unit) => (BAW G va cap yf))) := by
  refine MM.of (by decide) (Nat.le_of_ble_eq_true rfl) ?_
  intro p e s m args below meth cd A C hini hA hK hZ hP hD ls hl
  generalize hQ : MQ below ((Qv_ G (fun (_ : Unit) => True) (fun (_ : Unit) => (BAW G va cap yf))) A) args s (⟨2, 0, 0, 45⟩ : Room).cells (⟨2, 0, 0, 45⟩ : Room).slots A = Q
  obtain ⟨hx, hb, hr, hts, hown, hlk, hml⟩ := C
  have hown : s.vm.findClass RJ5 = some m.cls := hown
  have hS : va_S A s.heap s.heap [] := va_S.rf
  have hl : lv_has ls 3 [(0, .int (nI i)), (1, .int (nI x)), (2, .ref va)] := hl
  refine lv_iload_n hx hb dJ5_checkBoundsOffCount_0 rfl (lv_at hl 0 rfl) ?_
  refine lv_iload_n hx hb dJ5_checkBoundsOffCount_1 rfl (lv_at hl 1 rfl) ?_
  refine lv_aload_n hx hb dJ5_checkBoundsOffCount_2 rfl (lv_at hl 2 rfl) ?_
  refine callSi (As := [.ref va]) (rest := [.int (nI x), .int (nI i)]) (wc := (BAW G va cap yf)) (wr := ([] : va_W)) ⟨hx, hb, hml, hown, hts⟩ (m_J5_length l G va cap yf (by first | assumption | omega)) (va_cwS 1 hts (lw_S q747 q748 q96 q749) rfl rfl rfl (by decide +kernel) ⟨Nat.le_of_ble_eq_true rfl, Nat.le_of_ble_eq_true rfl⟩) hK hZ hA hP hD hS [0] [] rfl rfl (by decide) (by decide) (by decide) rfl hl.1 (Nat.le_of_ble_eq_true rfl) ⟨Nat.le_of_ble_eq_true rfl, Nat.le_of_ble_eq_true rfl⟩ rfl dJ5_checkBoundsOffCount_3 (fun r9 u9 H locs hw9 hP hD hS => ?_)
  subst hw9
  have hP : va_P G.1 CL (BAW G va cap yf) _ := hP
  have hD : va_D A (BAW G va cap yf) := hD
  refine callSi (As := [.int (nI i), .int (nI x), .int (nI (cap / 2))]) (rest := []) (wc := ([] : va_W)) (wr := (BAW G va cap yf)) ⟨hx, hb, hml, hown, hts⟩ (m_J4_checkBoundsOffCount l G i x (cap / 2) (by first | assumption | omega) (by first | assumption | omega)) (va_cwS 3 hts (lw_S q798 q799 q95 q800) rfl rfl rfl (by decide +kernel) ⟨Nat.le_of_ble_eq_true rfl, Nat.le_of_ble_eq_true rfl⟩) hK hZ hA hP hD hS [] [0] rfl rfl (by decide) (by decide) (by decide) rfl hl.1 (Nat.le_of_ble_eq_true rfl) ⟨Nat.le_of_ble_eq_true rfl, Nat.le_of_ble_eq_true rfl⟩ rfl dJ5_checkBoundsOffCount_6 (fun r9 u9 H locs hw9 hP hD hS => ?_)
  subst hw9
  have hP : va_P G.1 CL (BAW G va cap yf) _ := hP
  have hD : va_D A (BAW G va cap yf) := hD
  refine lv_pop hx hb dJ5_checkBoundsOffCount_9 rfl ?_
  subst hQ
  exact ret_v hx hb hr hlk () trivial hP hD hS dJ5_checkBoundsOffCount_10
set_option maxHeartbeats 4000000 in
set_option maxRecDepth 100000 in
theorem m_J5_inflate (l : Launch) (G : GG) (va : Nat) (cap : Nat) (yf : Nat → Nat) (vb : Nat) (cap2 : Nat) (g0 : Nat → Nat) (x : Nat) (hx1 : x ≤ cap) (hx2 : x * 2 ≤ cap2) (hc1 : cap < 65536) (hc2 : cap2 < 65536) : MM l G yJ5_inflate cJ5_inflate 6 none ⟨3, 0, 0, 67⟩ [.ref va, .int (nI 0), .ref vb, .int (nI 0), .int (nI x)] (BAW G va cap yf ++ BAW G vb cap2 g0) (Qv_ G (fun (u : (Nat → Nat)) => ∀ j, j < x → u (j * 2) % 256 + u (j * 2 + 1) % 256 * 256 = yf j % 256) (fun (u : (Nat → Nat)) => (BAW G va cap yf ++ BAW G vb cap2 u))) := by
  refine MM.of (by decide) (Nat.le_of_ble_eq_true rfl) ?_
  intro p e s m args below meth cd A C hini hA hK hZ hP hD ls hl
  generalize hQ : MQ below ((Qv_ G (fun (u : (Nat → Nat)) => ∀ j, j < x → u (j * 2) % 256 + u (j * 2 + 1) % 256 * 256 = yf j % 256) (fun (u : (Nat → Nat)) => (BAW G va cap yf ++ BAW G vb cap2 u))) A) args s (⟨3, 0, 0, 67⟩ : Room).cells (⟨3, 0, 0, 67⟩ : Room).slots A = Q
  obtain ⟨hx, hb, hr, hts, hown, hlk, hml⟩ := C
  have hown : s.vm.findClass RJ5 = some m.cls := hown
  have hS : va_S A s.heap s.heap [] := va_S.rf
  have hl : lv_has ls 6 [(0, .ref va), (1, .int (nI 0)), (2, .ref vb), (3, .int (nI 0)), (4, .int (nI x))] := hl
  refine lv_iload_n hx hb dJ5_inflate_0 rfl (lv_at hl 3 rfl) ?_
  refine lv_iload hx hb dJ5_inflate_1 (lv_at hl 4 rfl) ?_
  refine lv_aload_n hx hb dJ5_inflate_3 rfl (lv_at hl 2 rfl) ?_
  refine callSv (As := [.int (nI 0), .int (nI x), .ref vb]) (rest := []) (wc := (BAW G vb cap2 g0)) (wr := (BAW G va cap yf)) ⟨hx, hb, hml, hown, hts⟩ (m_J5_checkBoundsOffCount l G vb cap2 g0 0 x (by first | assumption | omega) (by first | assumption | omega)) (va_cwS 3 hts (lw_S q795 q796 q96 q797) rfl rfl rfl (by decide +kernel) ⟨Nat.le_of_ble_eq_true rfl, Nat.le_of_ble_eq_true rfl⟩) hK hZ hA hP hD hS [1] [0] rfl rfl (by decide) (by decide) (by decide) rfl hl.1 (Nat.le_of_ble_eq_true rfl) ⟨Nat.le_of_ble_eq_true rfl, Nat.le_of_ble_eq_true rfl⟩ rfl dJ5_inflate_4 (fun u9 H locs hw9 hP hD hS => ?_)
  have hP : va_P G.1 CL (BAW G va cap yf ++ BAW G vb cap2 g0) _ := hP
  have hD : va_D A (BAW G va cap yf ++ BAW G vb cap2 g0) := hD
  refine lv_iconst (v := nI 0) hx hb dJ5_inflate_7 (by decide) ?_
  refine lv_istore (lv' := [(5, .int (nI 0)), (0, .ref va), (1, .int (nI 0)), (2, .ref vb), (3, .int (nI 0)), (4, .int (nI x))]) hx hb dJ5_inflate_8 hl (by decide) rfl (fun ls hl => ?_)
  have lp10 : ∀ (f : Nat) (i : Nat) (g : Nat → Nat), x - i < f → (i ≤ x) → (∀ j, j < i → g (j * 2) % 256 + g (j * 2 + 1) % 256 * 256 = yf j % 256) → ∀ (H : Heap) (locs : List Loc) (ls : Array Slot), va_P G.1 CL (BAW G va cap yf ++ BAW G vb cap2 g) H → va_D A (BAW G va cap yf ++ BAW G vb cap2 g) → va_S A s.heap H locs → lv_has ls 6 [(5, .int (nI i)), (0, .ref va), (1, .int (nI i)), (2, .ref vb), (3, .int (nI i)), (4, .int (nI x))] → W p l e (⟨3, 0, 0, 67⟩ : Room) s m args below meth cd H locs 0 0 Q (F0 m 10 ls []) := by
    intro f
    induction f with
    | zero => intro i g hf; exact absurd hf (Nat.not_lt_zero _)
    | succ f ih10 =>
      intro i g hf hi hg H locs ls hP hD hS hl
      refine lv_iload hx hb dJ5_inflate_10 (lv_at hl 0 rfl) ?_
      refine lv_iload hx hb dJ5_inflate_12 (lv_at hl 5 rfl) ?_
      refine n_cmp_ge (tgt := 41) hx hb dJ5_inflate_14 (by decide) (by omega) (by omega) (fun c14 => ?_) (fun c14 => ?_)
      · skip
        subst hQ
        exact ret_v hx hb hr hlk g (by rw [show x = i by omega]; exact hg) hP hD hS dJ5_inflate_41
      · skip
        refine lv_aload_n hx hb dJ5_inflate_17 rfl (lv_at hl 3 rfl) ?_
        refine lv_iload_n hx hb dJ5_inflate_18 rfl (lv_at hl 4 rfl) ?_
        refine lv_iinc (v := nI (i + 1)) (lv' := [(3, .int (nI (i + 1))), (5, .int (nI i)), (0, .ref va), (1, .int (nI i)), (2, .ref vb), (4, .int (nI x))]) hx hb dJ5_inflate_19 hl (k := 4) rfl (nI_add _ _) (by decide) rfl (fun ls hl => ?_)
        refine lv_aload_n hx hb dJ5_inflate_22 rfl (lv_at hl 2 rfl) ?_
        refine lv_iload_n hx hb dJ5_inflate_23 rfl (lv_at hl 3 rfl) ?_
        refine lv_iinc (v := nI (i + 1)) (lv' := [(1, .int (nI (i + 1))), (3, .int (nI (i + 1))), (5, .int (nI i)), (0, .ref va), (2, .ref vb), (4, .int (nI x))]) hx hb dJ5_inflate_24 hl (k := 3) rfl (nI_add _ _) (by decide) rfl (fun ls hl => ?_)
        refine y_bald hx hb hK hP 0 1 rfl rfl (by omega) (by omega) dJ5_inflate_27 ?_
        refine lv_sipush (v := nI 255) hx hb dJ5_inflate_28 (by decide) ?_
        refine lv_iand hx hb dJ5_inflate_31 ?_
        refine eq_i (y := nI ((yf i) % 256)) (b8_and _) ?_
        refine callSv (As := [.ref vb, .int (nI i), .int (nI ((yf i) % 256))]) (rest := []) (wc := (BAW G vb cap2 g)) (wr := (BAW G va cap yf)) ⟨hx, hb, hml, hown, hts⟩ (m_J5_putChar l G vb cap2 g i ((yf i) % 256) (by first | assumption | omega) (by first | assumption | omega) (by first | assumption | omega)) (va_cwS 3 hts (lw_S q758 q759 q96 q760) rfl rfl rfl (by decide +kernel) ⟨Nat.le_of_ble_eq_true rfl, Nat.le_of_ble_eq_true rfl⟩) hK hZ hA hP hD hS [1] [0] rfl rfl (by decide) (by decide) (by decide) rfl hl.1 (Nat.le_of_ble_eq_true rfl) ⟨Nat.le_of_ble_eq_true rfl, Nat.le_of_ble_eq_true rfl⟩ rfl dJ5_inflate_32 (fun u9 H locs hw9 hP hD hS => ?_)
        have hP : va_P G.1 CL (BAW G va cap yf ++ BAW G vb cap2 (va_up (va_up g (i * 2) ((yf i) % 256)) ((i * 2) + 1) (((yf i) % 256) / 256))) _ := hP
        have hD : va_D A (BAW G va cap yf ++ BAW G vb cap2 (va_up (va_up g (i * 2) ((yf i) % 256)) ((i * 2) + 1) (((yf i) % 256) / 256))) := hD
        refine lv_iinc (v := nI (i + 1)) (lv' := [(5, .int (nI (i + 1))), (1, .int (nI (i + 1))), (3, .int (nI (i + 1))), (0, .ref va), (2, .ref vb), (4, .int (nI x))]) hx hb dJ5_inflate_35 hl (k := 2) rfl (nI_add _ _) (by decide) rfl (fun ls hl => ?_)
        refine lv_goto (tgt := 10) hx hb dJ5_inflate_38 (by decide) ?_
        exact ih10 (i + 1) (va_up (va_up g (i * 2) ((yf i) % 256)) ((i * 2) + 1) (((yf i) % 256) / 256)) (by omega) (by omega) (inf_st hg) _ _ _ hP hD hS (lv_sub hl [0, 3, 1, 4, 2, 5] rfl)
  exact lp10 _ 0 g0 (Nat.lt_succ_self _) (by omega) (fun j hj => absurd hj (Nat.not_lt_zero _)) _ _ _ hP hD hS (lv_sub hl [0, 1, 2, 3, 4, 5] rfl)
set_option maxHeartbeats 4000000 in
set_option maxRecDepth 100000 in
theorem m_J23_inflate (l : Launch) (G : GG) (va : Nat) (cap : Nat) (yf : Nat → Nat) (vb : Nat) (cap2 : Nat) (g0 : Nat → Nat) (x : Nat) (hx1 : x ≤ cap) (hx2 : x * 2 ≤ cap2) (hc1 : cap < 65536) (hc2 : cap2 < 65536) : MM l G yJ23_inflate cJ23_inflate 5 none ⟨4, 0, 0, 92⟩ [.ref va, .int (nI 0), .ref vb, .int (nI 0), .int (nI x)] (BAW G va cap yf ++ BAW G vb cap2 g0) (Qv_ G (fun (u : (Nat → Nat)) => ∀ j, j < x → u (j * 2) % 256 + u (j * 2 + 1) % 256 * 256 = yf j % 256) (fun (u : (Nat → Nat)) => (BAW G va cap yf ++ BAW G vb cap2 u))) := by
  refine MM.of (by decide) (Nat.le_of_ble_eq_true rfl) ?_
  intro p e s m args below meth cd A C hini hA hK hZ hP hD ls hl
  generalize hQ : MQ below ((Qv_ G (fun (u : (Nat → Nat)) => ∀ j, j < x → u (j * 2) % 256 + u (j * 2 + 1) % 256 * 256 = yf j % 256) (fun (u : (Nat → Nat)) => (BAW G va cap yf ++ BAW G vb cap2 u))) A) args s (⟨4, 0, 0, 92⟩ : Room).cells (⟨4, 0, 0, 92⟩ : Room).slots A = Q
  obtain ⟨hx, hb, hr, hts, hown, hlk, hml⟩ := C
  have hown : s.vm.findClass RJ23 = some m.cls := hown
  have hS : va_S A s.heap s.heap [] := va_S.rf
  have hl : lv_has ls 5 [(0, .ref va), (1, .int (nI 0)), (2, .ref vb), (3, .int (nI 0)), (4, .int (nI x))] := hl
  refine lv_aload_n hx hb dJ23_inflate_0 rfl (lv_at hl 0 rfl) ?_
  refine lv_iload_n hx hb dJ23_inflate_1 rfl (lv_at hl 1 rfl) ?_
  refine lv_aload_n hx hb dJ23_inflate_2 rfl (lv_at hl 2 rfl) ?_
  refine lv_iload_n hx hb dJ23_inflate_3 rfl (lv_at hl 3 rfl) ?_
  refine lv_iload hx hb dJ23_inflate_4 (lv_at hl 4 rfl) ?_
  refine callSv (As := [.ref va, .int (nI 0), .ref vb, .int (nI 0), .int (nI x)]) (rest := []) (wc := (BAW G va cap yf ++ BAW G vb cap2 g0)) (wr := ([] : va_W)) ⟨hx, hb, hml, hown, hts⟩ (m_J5_inflate l G va cap yf vb cap2 g0 x (by first | assumption | omega) (by first | assumption | omega) (by first | assumption | omega) (by first | assumption | omega)) (va_cwS 5 hts (lw_S q792 q793 q96 q794) rfl rfl rfl (by decide +kernel) ⟨Nat.le_of_ble_eq_true rfl, Nat.le_of_ble_eq_true rfl⟩) hK hZ hA hP hD hS [0, 1] [] rfl rfl (by decide) (by decide) (by decide) rfl hl.1 (Nat.le_of_ble_eq_true rfl) ⟨Nat.le_of_ble_eq_true rfl, Nat.le_of_ble_eq_true rfl⟩ rfl dJ23_inflate_6 (fun u9 H locs hw9 hP hD hS => ?_)
  obtain ⟨g_1, e9⟩ : ∃ z, z = u9 := ⟨_, rfl⟩
  subst e9
  have hw6 : ∀ j, j < x → g_1 (j * 2) % 256 + g_1 (j * 2 + 1) % 256 * 256 = yf j % 256 := hw9
  have hP : va_P G.1 CL (BAW G va cap yf ++ BAW G vb cap2 g_1) _ := hP
  have hD : va_D A (BAW G va cap yf ++ BAW G vb cap2 g_1) := hD
  subst hQ
  exact ret_v hx hb hr hlk g_1 hw6 hP hD hS dJ23_inflate_9
set_option maxHeartbeats 4000000 in
set_option maxRecDepth 100000 in
theorem m_J2_isLatin1__L (l : Launch) (G : GG) (sh : Nat) (va : Nat) (ml : Bool) (sn : Nat)  : MM l G yJ2_isLatin1 cJ2_isLatin1 1 (some .boolean) ⟨0, 0, 0, 0⟩ [.ref sh] (SOW G sh va false ml sn) (Qi_ G (fun (r : Int32) (_ : Unit) => r = nI 1) (fun (_ : Unit) => (SOW G sh va false ml sn))) := by
  refine MM.of (by decide) (Nat.le_of_ble_eq_true rfl) ?_
  intro p e s m args below meth cd A C hini hA hK hZ hP hD ls hl
  generalize hQ : MQ below ((Qi_ G (fun (r : Int32) (_ : Unit) => r = nI 1) (fun (_ : Unit) => (SOW G sh va false ml sn))) A) args s (⟨0, 0, 0, 0⟩ : Room).cells (⟨0, 0, 0, 0⟩ : Room).slots A = Q
  obtain ⟨hx, hb, hr, hts, hown, hlk, hml⟩ := C
  have hown : s.vm.findClass RJ2 = some m.cls := hown
  have hS : va_S A s.heap s.heap [] := va_S.rf
  have hl : lv_has ls 1 [(0, .ref sh)] := hl
  refine get_s (G := G) hx hb hZ.zCS hS hown (hts _ q243) dJ2_isLatin1_0 ?_
  refine n_if_eq (tgt := 17) hx hb dJ2_isLatin1_3 (by decide) (by decide) (fun c3 => ?_) (fun c3 => ?_)
  · exact absurd c3 (by decide)
  refine lv_aload_n hx hb dJ2_isLatin1_6 rfl (lv_at hl 0 rfl) ?_
  refine va_get (D := G.1) (ci := 9) (v := .int (bI false)) (C := RJ3) (T := TJ3) (N := 4) hx hb hts in_J3 hown hK hP 0 rfl rfl 1 (by decide) (hts _ q253) (fun _ h9 => h9) rfl dJ2_isLatin1_7 ?_
  refine b_if_ne (tgt := 17) hx hb dJ2_isLatin1_10 (by decide) (fun c10 => ?_) (fun c10 => ?_)
  · exact absurd c10 (by decide)
  refine lv_iconst (v := nI 1) hx hb dJ2_isLatin1_13 (by decide) ?_
  refine lv_goto (tgt := 18) hx hb dJ2_isLatin1_14 (by decide) ?_
  subst hQ
  exact ret_i hx hb hr hlk () rfl hP hD hS rfl dJ2_isLatin1_18
set_option maxHeartbeats 4000000 in
set_option maxRecDepth 100000 in
theorem m_J2_isLatin1__U (l : Launch) (G : GG) (sh : Nat) (va : Nat) (ml : Bool) (sn : Nat)  : MM l G yJ2_isLatin1 cJ2_isLatin1 1 (some .boolean) ⟨0, 0, 0, 0⟩ [.ref sh] (SOW G sh va true ml sn) (Qi_ G (fun (r : Int32) (_ : Unit) => r = nI 0) (fun (_ : Unit) => (SOW G sh va true ml sn))) := by
  refine MM.of (by decide) (Nat.le_of_ble_eq_true rfl) ?_
  intro p e s m args below meth cd A C hini hA hK hZ hP hD ls hl
  generalize hQ : MQ below ((Qi_ G (fun (r : Int32) (_ : Unit) => r = nI 0) (fun (_ : Unit) => (SOW G sh va true ml sn))) A) args s (⟨0, 0, 0, 0⟩ : Room).cells (⟨0, 0, 0, 0⟩ : Room).slots A = Q
  obtain ⟨hx, hb, hr, hts, hown, hlk, hml⟩ := C
  have hown : s.vm.findClass RJ2 = some m.cls := hown
  have hS : va_S A s.heap s.heap [] := va_S.rf
  have hl : lv_has ls 1 [(0, .ref sh)] := hl
  refine get_s (G := G) hx hb hZ.zCS hS hown (hts _ q243) dJ2_isLatin1_0 ?_
  refine n_if_eq (tgt := 17) hx hb dJ2_isLatin1_3 (by decide) (by decide) (fun c3 => ?_) (fun c3 => ?_)
  · exact absurd c3 (by decide)
  refine lv_aload_n hx hb dJ2_isLatin1_6 rfl (lv_at hl 0 rfl) ?_
  refine va_get (D := G.1) (ci := 9) (v := .int (bI true)) (C := RJ3) (T := TJ3) (N := 4) hx hb hts in_J3 hown hK hP 0 rfl rfl 1 (by decide) (hts _ q253) (fun _ h9 => h9) rfl dJ2_isLatin1_7 ?_
  refine b_if_ne (tgt := 17) hx hb dJ2_isLatin1_10 (by decide) (fun c10 => ?_) (fun c10 => ?_)
  rotate_left
  · exact absurd c10 (by decide)
  refine lv_iconst (v := nI 0) hx hb dJ2_isLatin1_17 (by decide) ?_
  subst hQ
  exact ret_i hx hb hr hlk () rfl hP hD hS rfl dJ2_isLatin1_18
set_option maxHeartbeats 4000000 in
set_option maxRecDepth 100000 in
theorem m_J2_inflate (l : Launch) (G : GG) (sh : Nat) (va : Nat) (ml : Bool) (sn : Nat) (cap : Nat) (yf : Nat → Nat) (hc1 : cap ≤ 122) (hc2 : sn ≤ cap) : MM l G yJ2_inflate cJ2_inflate 2 none ⟨5, 1, 244, 116⟩ [.ref sh] (SOW G sh va false ml sn ++ BAW G va cap yf) (Qv_ G (fun (u : (Nat) × (Nat → Nat)) => ∀ j, j < sn → u.2 (j * 2) % 256 + u.2 (j * 2 + 1) % 256 * 256 = yf j % 256) (fun (u : (Nat) × (Nat → Nat)) => (SOW G sh u.1 true ml sn ++ BAW G u.1 (cap * 2) u.2))) := by
  refine MM.of (by decide) (Nat.le_of_ble_eq_true rfl) ?_
  intro p e s m args below meth cd A C hini hA hK hZ hP hD ls hl
  generalize hQ : MQ below ((Qv_ G (fun (u : (Nat) × (Nat → Nat)) => ∀ j, j < sn → u.2 (j * 2) % 256 + u.2 (j * 2 + 1) % 256 * 256 = yf j % 256) (fun (u : (Nat) × (Nat → Nat)) => (SOW G sh u.1 true ml sn ++ BAW G u.1 (cap * 2) u.2))) A) args s (⟨5, 1, 244, 116⟩ : Room).cells (⟨5, 1, 244, 116⟩ : Room).slots A = Q
  obtain ⟨hx, hb, hr, hts, hown, hlk, hml⟩ := C
  have hown : s.vm.findClass RJ2 = some m.cls := hown
  have hS : va_S A s.heap s.heap [] := va_S.rf
  have hl : lv_has ls 2 [(0, .ref sh)] := hl
  refine lv_aload_n hx hb dJ2_inflate_0 rfl (lv_at hl 0 rfl) ?_
  refine callVi (As := []) (rest := []) (wc := (SOW G sh va false ml sn)) (wr := (BAW G va cap yf)) ⟨hx, hb, hml, hown, hts⟩ (m_J2_isLatin1__L l G sh va ml sn ) ⟨callB_of 0 hts (lw_meth q740) rfl rfl rfl (hts _ q93) (hts _ q736) (by decide +kernel) ⟨Nat.le_of_ble_eq_true rfl, Nat.le_of_ble_eq_true rfl⟩, hts _ q737, (hts _ q739)⟩ hK hZ hA hP hD hS [0] [1] rfl rfl (by decide) (by decide) (by decide) 0 9 rfl rfl rfl hl.1 (Nat.le_of_ble_eq_true rfl) ⟨Nat.le_of_ble_eq_true rfl, Nat.le_of_ble_eq_true rfl⟩ rfl dJ2_inflate_1 (fun r9 u9 H locs hw9 hP hD hS => ?_)
  subst hw9
  obtain ⟨hP, hD⟩ := re_PD (w := (SOW G sh va false ml sn ++ BAW G va cap yf)) hP hD [1, 0] (by decide) rfl
  refine n_if_ne (tgt := 8) hx hb dJ2_inflate_4 (by decide) (by decide) (fun c4 => ?_) (fun c4 => ?_)
  rotate_left
  · exact absurd c4 (by decide)
  refine lv_aload_n hx hb dJ2_inflate_8 rfl (lv_at hl 0 rfl) ?_
  refine va_get (D := G.1) (ci := 9) (v := .ref va) (C := RJ3) (T := TJ3) (N := 4) hx hb hts in_J3 hown hK hP 0 rfl rfl 0 (by decide) (hts _ q252) (fun _ h9 => h9) rfl dJ2_inflate_9 ?_
  refine va_alen (v := nI cap) hx hb hK hP 1 1 rfl rfl rfl dJ2_inflate_12 ?_
  refine callSr (As := [.int (nI cap)]) (rest := []) (wc := ([] : va_W)) (wr := (SOW G sh va false ml sn ++ BAW G va cap yf)) ⟨hx, hb, hml, hown, hts⟩ (m_J5_newBytesFor l G cap (by first | assumption | omega)) (va_cwS 1 hts (lw_S q245 q246 q96 q247) rfl rfl rfl (by decide +kernel) ⟨Nat.le_of_ble_eq_true rfl, Nat.le_of_ble_eq_true rfl⟩) hK hZ hA hP hD hS [] [0, 1] rfl rfl (by decide) (by decide) (by decide) rfl hl.1 (Nat.le_of_ble_eq_true rfl) ⟨Nat.le_of_ble_eq_true rfl, Nat.le_of_ble_eq_true rfl⟩ rfl dJ2_inflate_13 (fun r9 u9 H locs hw9 hP hD hS => ?_)
  refine W.widen (k := 1) (n := 244) (Nat.le_refl _) (Nat.le_refl _) ?_
  obtain ⟨r_2, e8⟩ : ∃ z, z = r9 := ⟨_, rfl⟩
  subst e8
  have hP : va_P G.1 CL (SOW G sh va false ml sn ++ BAW G va cap yf ++ BAW G r_2 (cap * 2) (fun _ => 0)) _ := hP
  have hD : va_D A (SOW G sh va false ml sn ++ BAW G va cap yf ++ BAW G r_2 (cap * 2) (fun _ => 0)) := hD
  refine lv_astore_n (lv' := [(1, .ref r_2), (0, .ref sh)]) hx hb dJ2_inflate_16 rfl hl (by decide) rfl (fun ls hl => ?_)
  refine lv_aload_n hx hb dJ2_inflate_17 rfl (lv_at hl 1 rfl) ?_
  refine va_get (D := G.1) (ci := 9) (v := .ref va) (C := RJ3) (T := TJ3) (N := 4) hx hb hts in_J3 hown hK hP 0 rfl rfl 0 (by decide) (hts _ q252) (fun _ h9 => h9) rfl dJ2_inflate_18 ?_
  refine lv_iconst (v := nI 0) hx hb dJ2_inflate_21 (by decide) ?_
  refine lv_aload_n hx hb dJ2_inflate_22 rfl (lv_at hl 0 rfl) ?_
  refine lv_iconst (v := nI 0) hx hb dJ2_inflate_23 (by decide) ?_
  refine lv_aload_n hx hb dJ2_inflate_24 rfl (lv_at hl 1 rfl) ?_
  refine va_get (D := G.1) (ci := 9) (v := .int (nI sn)) (C := RJ3) (T := TJ3) (N := 4) hx hb hts in_J3 hown hK hP 0 rfl rfl 3 (by decide) (hts _ q256) (fun _ h9 => h9) rfl dJ2_inflate_25 ?_
  refine callSv (As := [.ref va, .int (nI 0), .ref r_2, .int (nI 0), .int (nI sn)]) (rest := []) (wc := (BAW G va cap yf ++ BAW G r_2 (cap * 2) (fun _ => 0))) (wr := (SOW G sh va false ml sn)) ⟨hx, hb, hml, hown, hts⟩ (m_J23_inflate l G va cap yf r_2 (cap * 2) (fun _ => 0) sn (by first | assumption | omega) (by first | assumption | omega) (by first | assumption | omega) (by first | assumption | omega)) (va_cwS 5 hts (lw_S q789 q790 q120 q791) rfl rfl rfl (by decide +kernel) ⟨Nat.le_of_ble_eq_true rfl, Nat.le_of_ble_eq_true rfl⟩) hK hZ hA hP hD hS [1, 2] [0] rfl rfl (by decide) (by decide) (by decide) rfl hl.1 (Nat.le_of_ble_eq_true rfl) ⟨Nat.le_of_ble_eq_true rfl, Nat.le_of_ble_eq_true rfl⟩ rfl dJ2_inflate_28 (fun u9 H locs hw9 hP hD hS => ?_)
  obtain ⟨g_3, e9⟩ : ∃ z, z = u9 := ⟨_, rfl⟩
  subst e9
  have hw28 : ∀ j, j < sn → g_3 (j * 2) % 256 + g_3 (j * 2 + 1) % 256 * 256 = yf j % 256 := hw9
  have hP : va_P G.1 CL (SOW G sh va false ml sn ++ BAW G va cap yf ++ BAW G r_2 (cap * 2) g_3) _ := hP
  have hD : va_D A (SOW G sh va false ml sn ++ BAW G va cap yf ++ BAW G r_2 (cap * 2) g_3) := hD
  refine lv_aload_n hx hb dJ2_inflate_31 rfl (lv_at hl 1 rfl) ?_
  refine lv_aload_n hx hb dJ2_inflate_32 rfl (lv_at hl 0 rfl) ?_
  refine va_put (D := G.1) (ci := 9) (v := .ref r_2) (C := RJ3) (T := TJ3) (N := 4) hx hb hts in_J3 tyJ3 tyJ3_ok nmJ3 hown hK hP hD hS 0 rfl rfl 0 (by decide) (hts _ q252) (fun _ h9 => h9) rfl (tyJ3_ok 0 (by decide)) rfl rfl (Nat.le_of_ble_eq_true rfl) dJ2_inflate_33 (fun H locs hP hD hS => ?_)
  have hP : va_P G.1 CL (SOW G sh r_2 false ml sn ++ BAW G va cap yf ++ BAW G r_2 (cap * 2) g_3) _ := hP
  have hD : va_D A (SOW G sh r_2 false ml sn ++ BAW G va cap yf ++ BAW G r_2 (cap * 2) g_3) := hD
  refine lv_aload_n hx hb dJ2_inflate_36 rfl (lv_at hl 1 rfl) ?_
  refine lv_iconst (v := nI 1) hx hb dJ2_inflate_37 (by decide) ?_
  refine va_put (D := G.1) (ci := 9) (v := .int (bI true)) (ty := .byte) (C := RJ3) (T := TJ3) (N := 4) hx hb hts in_J3 tyJ3 tyJ3_ok nmJ3 hown hK hP hD hS 0 rfl rfl 1 (by decide) (hts _ q253) (fun _ h9 => h9) rfl (by decide +kernel) (bI_narB _) rfl (Nat.le_of_ble_eq_true rfl) dJ2_inflate_38 (fun H locs hP hD hS => ?_)
  have hP : va_P G.1 CL (SOW G sh r_2 true ml sn ++ BAW G va cap yf ++ BAW G r_2 (cap * 2) g_3) _ := hP
  have hD : va_D A (SOW G sh r_2 true ml sn ++ BAW G va cap yf ++ BAW G r_2 (cap * 2) g_3) := hD
  obtain ⟨hP, hD⟩ := re_PD (w := (SOW G sh r_2 true ml sn ++ BAW G r_2 (cap * 2) g_3)) hP hD [0, 2] (by decide) rfl
  subst hQ
  exact ret_v hx hb hr hlk (⟨r_2, g_3⟩) hw28 hP hD hS dJ2_inflate_41
set_option maxHeartbeats 4000000 in
set_option maxRecDepth 100000 in
theorem m_J21_newLength (l : Launch) (G : GG) (x : Nat) (y : Nat) (z : Nat) (h1 : 0 < x + max y z) (h2 : x + max y z < 1000) : MM l G yJ21_newLength cJ21_newLength 4 (some .int) ⟨1, 0, 0, 14⟩ [.int (nI x), .int (nI y), .int (nI z)] ([] : va_W) (Qi_ G (fun (r : Int32) (_ : Unit) => r = nI (x + max y z)) (fun (_ : Unit) => ([] : va_W))) := by
  refine MM.of (by decide) (Nat.le_of_ble_eq_true rfl) ?_
  intro p e s m args below meth cd A C hini hA hK hZ hP hD ls hl
  generalize hQ : MQ below ((Qi_ G (fun (r : Int32) (_ : Unit) => r = nI (x + max y z)) (fun (_ : Unit) => ([] : va_W))) A) args s (⟨1, 0, 0, 14⟩ : Room).cells (⟨1, 0, 0, 14⟩ : Room).slots A = Q
  obtain ⟨hx, hb, hr, hts, hown, hlk, hml⟩ := C
  have hown : s.vm.findClass RJ21 = some m.cls := hown
  have hS : va_S A s.heap s.heap [] := va_S.rf
  have hl : lv_has ls 4 [(0, .int (nI x)), (1, .int (nI y)), (2, .int (nI z))] := hl
  refine lv_iload_n hx hb dJ21_newLength_0 rfl (lv_at hl 0 rfl) ?_
  refine lv_iload_n hx hb dJ21_newLength_1 rfl (lv_at hl 1 rfl) ?_
  refine lv_iload_n hx hb dJ21_newLength_2 rfl (lv_at hl 2 rfl) ?_
  refine n_mmax hx hb (by rw [hml]; exact hl.1.symm) hown (hts _ q718) (hts _ q719) (hts _ q103) (hts _ q720) (Nat.le_of_ble_eq_true rfl) (Nat.le_of_ble_eq_true rfl) (Nat.le_of_ble_eq_true rfl) (Nat.le_of_ble_eq_true rfl) (by omega) (by omega) dJ21_newLength_3 ?_
  refine n_iadd hx hb dJ21_newLength_6 ?_
  refine lv_istore_n (lv' := [(3, .int (nI (x + (max y z)))), (0, .int (nI x)), (1, .int (nI y)), (2, .int (nI z))]) hx hb dJ21_newLength_7 rfl hl (by decide) rfl (fun ls hl => ?_)
  refine lv_iconst (v := nI 0) hx hb dJ21_newLength_8 (by decide) ?_
  refine lv_iload_n hx hb dJ21_newLength_9 rfl (lv_at hl 0 rfl) ?_
  refine n_cmp_ge (tgt := 21) hx hb dJ21_newLength_10 (by decide) (by omega) (by omega) (fun c10 => ?_) (fun c10 => ?_)
  · exact absurd c10 (by omega)
  refine lv_iload_n hx hb dJ21_newLength_13 rfl (lv_at hl 0 rfl) ?_
  refine lv_ldc (v := nI 2147483639) hx hb hown (hts _ q721) dJ21_newLength_14 ?_
  refine n_cmp_gt (tgt := 21) hx hb dJ21_newLength_16 (by decide) (by omega) (by omega) (fun c16 => ?_) (fun c16 => ?_)
  · exact absurd c16 (by omega)
  refine lv_iload_n hx hb dJ21_newLength_19 rfl (lv_at hl 0 rfl) ?_
  subst hQ
  exact ret_i hx hb hr hlk () (congrArg nI (by omega)) hP hD hS rfl dJ21_newLength_20
set_option maxHeartbeats 4000000 in
set_option maxRecDepth 100000 in
theorem m_J2_newCapacity__L (l : Launch) (G : GG) (sh : Nat) (va : Nat) (ml : Bool) (sn : Nat) (cap : Nat) (yf : Nat → Nat) (mn : Nat) (h1 : cap < mn) (h2 : mn ≤ 61) : MM l G yJ2_newCapacity cJ2_newCapacity 6 (some .int) ⟨2, 0, 0, 37⟩ [.ref sh, .int (nI mn)] (SOW G sh va false ml sn ++ BAW G va cap yf) (Qi_ G (fun (r : Int32) (_ : Unit) => r = nI (cap + max (mn - cap) (cap + 2))) (fun (_ : Unit) => (SOW G sh va false ml sn ++ BAW G va cap yf))) := by
  refine MM.of (by decide) (Nat.le_of_ble_eq_true rfl) ?_
  intro p e s m args below meth cd A C hini hA hK hZ hP hD ls hl
  generalize hQ : MQ below ((Qi_ G (fun (r : Int32) (_ : Unit) => r = nI (cap + max (mn - cap) (cap + 2))) (fun (_ : Unit) => (SOW G sh va false ml sn ++ BAW G va cap yf))) A) args s (⟨2, 0, 0, 37⟩ : Room).cells (⟨2, 0, 0, 37⟩ : Room).slots A = Q
  obtain ⟨hx, hb, hr, hts, hown, hlk, hml⟩ := C
  have hown : s.vm.findClass RJ2 = some m.cls := hown
  have hS : va_S A s.heap s.heap [] := va_S.rf
  have hl : lv_has ls 6 [(0, .ref sh), (1, .int (nI mn))] := hl
  refine lv_aload_n hx hb dJ2_newCapacity_0 rfl (lv_at hl 0 rfl) ?_
  refine va_get (D := G.1) (ci := 9) (v := .ref va) (C := RJ3) (T := TJ3) (N := 4) hx hb hts in_J3 hown hK hP 0 rfl rfl 0 (by decide) (hts _ q252) (fun _ h9 => h9) rfl dJ2_newCapacity_1 ?_
  refine va_alen (v := nI cap) hx hb hK hP 1 1 rfl rfl rfl dJ2_newCapacity_4 ?_
  refine lv_istore_n (lv' := [(2, .int (nI cap)), (0, .ref sh), (1, .int (nI mn))]) hx hb dJ2_newCapacity_5 rfl hl (by decide) rfl (fun ls hl => ?_)
  refine lv_iload_n hx hb dJ2_newCapacity_6 rfl (lv_at hl 2 rfl) ?_
  refine lv_aload_n hx hb dJ2_newCapacity_7 rfl (lv_at hl 1 rfl) ?_
  refine va_get (D := G.1) (ci := 9) (v := .int (bI false)) (C := RJ3) (T := TJ3) (N := 4) hx hb hts in_J3 hown hK hP 0 rfl rfl 1 (by decide) (hts _ q253) (fun _ h9 => h9) rfl dJ2_newCapacity_8 ?_
  refine n_ishl 0 hx hb rfl (by decide) (by omega) dJ2_newCapacity_11 ?_
  refine eq_i (y := nI mn) (congrArg nI (Nat.mul_one _)) ?_
  refine lv_istore_n (lv' := [(3, .int (nI mn)), (2, .int (nI cap)), (0, .ref sh), (1, .int (nI mn))]) hx hb dJ2_newCapacity_12 rfl hl (by decide) rfl (fun ls hl => ?_)
  refine lv_iload_n hx hb dJ2_newCapacity_13 rfl (lv_at hl 0 rfl) ?_
  refine lv_iload_n hx hb dJ2_newCapacity_14 rfl (lv_at hl 1 rfl) ?_
  refine n_isub hx hb (by omega) dJ2_newCapacity_15 ?_
  refine lv_istore (lv' := [(4, .int (nI (mn - cap))), (3, .int (nI mn)), (2, .int (nI cap)), (0, .ref sh), (1, .int (nI mn))]) hx hb dJ2_newCapacity_16 hl (by decide) rfl (fun ls hl => ?_)
  refine lv_iload_n hx hb dJ2_newCapacity_18 rfl (lv_at hl 2 rfl) ?_
  refine lv_iload hx hb dJ2_newCapacity_19 (lv_at hl 0 rfl) ?_
  refine lv_iload_n hx hb dJ2_newCapacity_21 rfl (lv_at hl 2 rfl) ?_
  refine lv_iconst (v := nI 2) hx hb dJ2_newCapacity_22 (by decide) ?_
  refine lv_aload_n hx hb dJ2_newCapacity_23 rfl (lv_at hl 3 rfl) ?_
  refine va_get (D := G.1) (ci := 9) (v := .int (bI false)) (C := RJ3) (T := TJ3) (N := 4) hx hb hts in_J3 hown hK hP 0 rfl rfl 1 (by decide) (hts _ q253) (fun _ h9 => h9) rfl dJ2_newCapacity_24 ?_
  refine n_ishl 0 hx hb rfl (by decide) (by omega) dJ2_newCapacity_27 ?_
  refine eq_i (y := nI 2) (congrArg nI (Nat.mul_one _)) ?_
  refine n_iadd hx hb dJ2_newCapacity_28 ?_
  refine callSi (As := [.int (nI cap), .int (nI (mn - cap)), .int (nI (cap + 2))]) (rest := []) (wc := ([] : va_W)) (wr := (SOW G sh va false ml sn ++ BAW G va cap yf)) ⟨hx, hb, hml, hown, hts⟩ (m_J21_newLength l G cap (mn - cap) (cap + 2) (by first | assumption | omega) (by first | assumption | omega)) (va_cwS 3 hts (lw_S q715 q716 q118 q717) rfl rfl rfl (by decide +kernel) ⟨Nat.le_of_ble_eq_true rfl, Nat.le_of_ble_eq_true rfl⟩) hK hZ hA hP hD hS [] [0, 1] rfl rfl (by decide) (by decide) (by decide) rfl hl.1 (Nat.le_of_ble_eq_true rfl) ⟨Nat.le_of_ble_eq_true rfl, Nat.le_of_ble_eq_true rfl⟩ rfl dJ2_newCapacity_29 (fun r9 u9 H locs hw9 hP hD hS => ?_)
  subst hw9
  have hP : va_P G.1 CL (SOW G sh va false ml sn ++ BAW G va cap yf) _ := hP
  have hD : va_D A (SOW G sh va false ml sn ++ BAW G va cap yf) := hD
  refine lv_istore (lv' := [(5, .int (nI (cap + max (mn - cap) (cap + 2)))), (4, .int (nI (mn - cap))), (3, .int (nI mn)), (2, .int (nI cap)), (0, .ref sh), (1, .int (nI mn))]) hx hb dJ2_newCapacity_32 hl (by decide) rfl (fun ls hl => ?_)
  refine lv_iload hx hb dJ2_newCapacity_34 (lv_at hl 0 rfl) ?_
  refine lv_ldc (v := nI 2147483647) hx hb hown (hts _ q725) dJ2_newCapacity_36 ?_
  refine n_cmp_ne (tgt := 51) hx hb dJ2_newCapacity_38 (by decide) (by omega) (by omega) (fun c38 => ?_) (fun c38 => ?_)
  rotate_left
  · exact absurd c38 (by omega)
  refine lv_iload hx hb dJ2_newCapacity_51 (lv_at hl 0 rfl) ?_
  refine lv_aload_n hx hb dJ2_newCapacity_53 rfl (lv_at hl 4 rfl) ?_
  refine va_get (D := G.1) (ci := 9) (v := .int (bI false)) (C := RJ3) (T := TJ3) (N := 4) hx hb hts in_J3 hown hK hP 0 rfl rfl 1 (by decide) (hts _ q253) (fun _ h9 => h9) rfl dJ2_newCapacity_54 ?_
  refine n_ishr 0 hx hb rfl (by decide) (by omega) dJ2_newCapacity_57 ?_
  refine eq_i (y := nI (cap + max (mn - cap) (cap + 2))) (congrArg nI (Nat.div_one _)) ?_
  subst hQ
  exact ret_i hx hb hr hlk () rfl hP hD hS rfl dJ2_newCapacity_58
set_option maxHeartbeats 4000000 in
set_option maxRecDepth 100000 in
theorem m_J2_newCapacity__U (l : Launch) (G : GG) (sh : Nat) (va : Nat) (ml : Bool) (sn : Nat) (cap : Nat) (yf : Nat → Nat) (mn : Nat) (h1 : cap < mn * 2) (h2 : mn ≤ 61) : MM l G yJ2_newCapacity cJ2_newCapacity 6 (some .int) ⟨2, 0, 0, 37⟩ [.ref sh, .int (nI mn)] (SOW G sh va true ml sn ++ BAW G va cap yf) (Qi_ G (fun (r : Int32) (_ : Unit) => r = nI ((cap + max (mn * 2 - cap) (cap + (2 * 2))) / 2)) (fun (_ : Unit) => (SOW G sh va true ml sn ++ BAW G va cap yf))) := by
  refine MM.of (by decide) (Nat.le_of_ble_eq_true rfl) ?_
  intro p e s m args below meth cd A C hini hA hK hZ hP hD ls hl
  generalize hQ : MQ below ((Qi_ G (fun (r : Int32) (_ : Unit) => r = nI ((cap + max (mn * 2 - cap) (cap + (2 * 2))) / 2)) (fun (_ : Unit) => (SOW G sh va true ml sn ++ BAW G va cap yf))) A) args s (⟨2, 0, 0, 37⟩ : Room).cells (⟨2, 0, 0, 37⟩ : Room).slots A = Q
  obtain ⟨hx, hb, hr, hts, hown, hlk, hml⟩ := C
  have hown : s.vm.findClass RJ2 = some m.cls := hown
  have hS : va_S A s.heap s.heap [] := va_S.rf
  have hl : lv_has ls 6 [(0, .ref sh), (1, .int (nI mn))] := hl
  refine lv_aload_n hx hb dJ2_newCapacity_0 rfl (lv_at hl 0 rfl) ?_
  refine va_get (D := G.1) (ci := 9) (v := .ref va) (C := RJ3) (T := TJ3) (N := 4) hx hb hts in_J3 hown hK hP 0 rfl rfl 0 (by decide) (hts _ q252) (fun _ h9 => h9) rfl dJ2_newCapacity_1 ?_
  refine va_alen (v := nI cap) hx hb hK hP 1 1 rfl rfl rfl dJ2_newCapacity_4 ?_
  refine lv_istore_n (lv' := [(2, .int (nI cap)), (0, .ref sh), (1, .int (nI mn))]) hx hb dJ2_newCapacity_5 rfl hl (by decide) rfl (fun ls hl => ?_)
  refine lv_iload_n hx hb dJ2_newCapacity_6 rfl (lv_at hl 2 rfl) ?_
  refine lv_aload_n hx hb dJ2_newCapacity_7 rfl (lv_at hl 1 rfl) ?_
  refine va_get (D := G.1) (ci := 9) (v := .int (bI true)) (C := RJ3) (T := TJ3) (N := 4) hx hb hts in_J3 hown hK hP 0 rfl rfl 1 (by decide) (hts _ q253) (fun _ h9 => h9) rfl dJ2_newCapacity_8 ?_
  refine n_ishl 1 hx hb rfl (by decide) (by omega) dJ2_newCapacity_11 ?_
  refine eq_i (y := nI (mn * 2)) rfl ?_
  refine lv_istore_n (lv' := [(3, .int (nI (mn * 2))), (2, .int (nI cap)), (0, .ref sh), (1, .int (nI mn))]) hx hb dJ2_newCapacity_12 rfl hl (by decide) rfl (fun ls hl => ?_)
  refine lv_iload_n hx hb dJ2_newCapacity_13 rfl (lv_at hl 0 rfl) ?_
  refine lv_iload_n hx hb dJ2_newCapacity_14 rfl (lv_at hl 1 rfl) ?_
  refine n_isub hx hb (by omega) dJ2_newCapacity_15 ?_
  refine lv_istore (lv' := [(4, .int (nI ((mn * 2) - cap))), (3, .int (nI (mn * 2))), (2, .int (nI cap)), (0, .ref sh), (1, .int (nI mn))]) hx hb dJ2_newCapacity_16 hl (by decide) rfl (fun ls hl => ?_)
  refine lv_iload_n hx hb dJ2_newCapacity_18 rfl (lv_at hl 2 rfl) ?_
  refine lv_iload hx hb dJ2_newCapacity_19 (lv_at hl 0 rfl) ?_
  refine lv_iload_n hx hb dJ2_newCapacity_21 rfl (lv_at hl 2 rfl) ?_
  refine lv_iconst (v := nI 2) hx hb dJ2_newCapacity_22 (by decide) ?_
  refine lv_aload_n hx hb dJ2_newCapacity_23 rfl (lv_at hl 3 rfl) ?_
  refine va_get (D := G.1) (ci := 9) (v := .int (bI true)) (C := RJ3) (T := TJ3) (N := 4) hx hb hts in_J3 hown hK hP 0 rfl rfl 1 (by decide) (hts _ q253) (fun _ h9 => h9) rfl dJ2_newCapacity_24 ?_
  refine n_ishl 1 hx hb rfl (by decide) (by omega) dJ2_newCapacity_27 ?_
  refine eq_i (y := nI (2 * 2)) rfl ?_
  refine n_iadd hx hb dJ2_newCapacity_28 ?_
  refine callSi (As := [.int (nI cap), .int (nI ((mn * 2) - cap)), .int (nI (cap + (2 * 2)))]) (rest := []) (wc := ([] : va_W)) (wr := (SOW G sh va true ml sn ++ BAW G va cap yf)) ⟨hx, hb, hml, hown, hts⟩ (m_J21_newLength l G cap ((mn * 2) - cap) (cap + (2 * 2)) (by first | assumption | omega) (by first | assumption | omega)) (va_cwS 3 hts (lw_S q715 q716 q118 q717) rfl rfl rfl (by decide +kernel) ⟨Nat.le_of_ble_eq_true rfl, Nat.le_of_ble_eq_true rfl⟩) hK hZ hA hP hD hS [] [0, 1] rfl rfl (by decide) (by decide) (by decide) rfl hl.1 (Nat.le_of_ble_eq_true rfl) ⟨Nat.le_of_ble_eq_true rfl, Nat.le_of_ble_eq_true rfl⟩ rfl dJ2_newCapacity_29 (fun r9 u9 H locs hw9 hP hD hS => ?_)
  subst hw9
  have hP : va_P G.1 CL (SOW G sh va true ml sn ++ BAW G va cap yf) _ := hP
  have hD : va_D A (SOW G sh va true ml sn ++ BAW G va cap yf) := hD
  refine lv_istore (lv' := [(5, .int (nI (cap + max ((mn * 2) - cap) (cap + (2 * 2))))), (4, .int (nI ((mn * 2) - cap))), (3, .int (nI (mn * 2))), (2, .int (nI cap)), (0, .ref sh), (1, .int (nI mn))]) hx hb dJ2_newCapacity_32 hl (by decide) rfl (fun ls hl => ?_)
  refine lv_iload hx hb dJ2_newCapacity_34 (lv_at hl 0 rfl) ?_
  refine lv_ldc (v := nI 2147483647) hx hb hown (hts _ q725) dJ2_newCapacity_36 ?_
  refine n_cmp_ne (tgt := 51) hx hb dJ2_newCapacity_38 (by decide) (by omega) (by omega) (fun c38 => ?_) (fun c38 => ?_)
  rotate_left
  · exact absurd c38 (by omega)
  refine lv_iload hx hb dJ2_newCapacity_51 (lv_at hl 0 rfl) ?_
  refine lv_aload_n hx hb dJ2_newCapacity_53 rfl (lv_at hl 4 rfl) ?_
  refine va_get (D := G.1) (ci := 9) (v := .int (bI true)) (C := RJ3) (T := TJ3) (N := 4) hx hb hts in_J3 hown hK hP 0 rfl rfl 1 (by decide) (hts _ q253) (fun _ h9 => h9) rfl dJ2_newCapacity_54 ?_
  refine n_ishr 1 hx hb rfl (by decide) (by omega) dJ2_newCapacity_57 ?_
  refine eq_i (y := nI ((cap + max ((mn * 2) - cap) (cap + (2 * 2))) / 2)) rfl ?_
  subst hQ
  exact ret_i hx hb hr hlk () (congrArg nI (by omega)) hP hD hS rfl dJ2_newCapacity_58
set_option maxHeartbeats 4000000 in
set_option maxRecDepth 100000 in
theorem m_J10_copyOf_3 (l : Launch) (G : GG) (va : Nat) (cap : Nat) (yf : Nat → Nat) (x : Nat) (h1 : cap < x) (h2 : x ≤ 246) : MM l G yJ10_copyOf_3 cJ10_copyOf_3 3 (some (.array .byte)) ⟨1, 1, 246, 18⟩ [.ref va, .int (nI x)] (BAW G va cap yf) (Qr_ G (fun (r : Nat) (_ : Unit) => True) (fun (r : Nat) (_ : Unit) => (BAW G va cap yf ++ BAW G r x (va_cpy yf (fun _ => 0) 0 0 (min cap x))))) := by
  refine MM.of (by decide) (Nat.le_of_ble_eq_true rfl) ?_
  intro p e s m args below meth cd A C hini hA hK hZ hP hD ls hl
  generalize hQ : MQ below ((Qr_ G (fun (r : Nat) (_ : Unit) => True) (fun (r : Nat) (_ : Unit) => (BAW G va cap yf ++ BAW G r x (va_cpy yf (fun _ => 0) 0 0 (min cap x))))) A) args s (⟨1, 1, 246, 18⟩ : Room).cells (⟨1, 1, 246, 18⟩ : Room).slots A = Q
  obtain ⟨hx, hb, hr, hts, hown, hlk, hml⟩ := C
  have hown : s.vm.findClass RJ10 = some m.cls := hown
  have hS : va_S A s.heap s.heap [] := va_S.rf
  have hl : lv_has ls 3 [(0, .ref va), (1, .int (nI x))] := hl
  refine lv_iload_n hx hb dJ10_copyOf_3_0 rfl (lv_at hl 1 rfl) ?_
  refine lv_aload_n hx hb dJ10_copyOf_3_1 rfl (lv_at hl 0 rfl) ?_
  refine va_alen (v := nI cap) hx hb hK hP 0 1 rfl rfl rfl dJ10_copyOf_3_2 ?_
  refine n_cmp_ne (tgt := 14) hx hb dJ10_copyOf_3_3 (by decide) (by omega) (by omega) (fun c3 => ?_) (fun c3 => ?_)
  rotate_left
  · exact absurd c3 (by omega)
  refine lv_iload_n hx hb dJ10_copyOf_3_14 rfl (lv_at hl 1 rfl) ?_
  refine nw_byte hx hb (hts _ q266) hK hP hD hS hA 1 rfl (n := x) (by omega) (by show 0 + 1 ≤ 1; omega) (by show 0 + x ≤ 246; omega) dJ10_copyOf_3_15 (fun q1 H hP hD hS => ?_)
  refine W.widen (k := 1) (n := 246) (by show 0 + 1 ≤ 1; omega) (by show 0 + x ≤ 246; omega) ?_
  rw [bB_0] at hP hD
  have hP : va_P G.1 CL (BAW G va cap yf ++ BAW G q1 x (fun _ => 0)) _ := hP
  have hD : va_D A (BAW G va cap yf ++ BAW G q1 x (fun _ => 0)) := hD
  refine lv_astore_n (lv' := [(2, .ref q1), (0, .ref va), (1, .int (nI x))]) hx hb dJ10_copyOf_3_17 rfl hl (by decide) rfl (fun ls hl => ?_)
  refine lv_aload_n hx hb dJ10_copyOf_3_18 rfl (lv_at hl 1 rfl) ?_
  refine lv_iconst (v := nI 0) hx hb dJ10_copyOf_3_19 (by decide) ?_
  refine lv_aload_n hx hb dJ10_copyOf_3_20 rfl (lv_at hl 0 rfl) ?_
  refine lv_iconst (v := nI 0) hx hb dJ10_copyOf_3_21 (by decide) ?_
  refine lv_aload_n hx hb dJ10_copyOf_3_22 rfl (lv_at hl 1 rfl) ?_
  refine va_alen (v := nI cap) hx hb hK hP 0 1 rfl rfl rfl dJ10_copyOf_3_23 ?_
  refine lv_iload_n hx hb dJ10_copyOf_3_24 rfl (lv_at hl 2 rfl) ?_
  refine n_mmin hx hb (by rw [hml]; exact hl.1.symm) hown (hts _ q421) (hts _ q422) (hts _ q103) (hts _ q423) (Nat.le_of_ble_eq_true rfl) (Nat.le_of_ble_eq_true rfl) (Nat.le_of_ble_eq_true rfl) (Nat.le_of_ble_eq_true rfl) (by omega) (by omega) dJ10_copyOf_3_25 ?_
  refine cp_y hx hb (by rw [hml]; exact hl.1.symm) hown (hts _ q424) (hts _ q426) (hts _ q425) (hts _ q104) hK hP hD hS 0 1 1 rfl rfl rfl (by omega) (by omega) (by omega) (by omega) (Nat.le_of_ble_eq_true rfl) (Nat.le_of_ble_eq_true rfl) dJ10_copyOf_3_28 (fun H locs hP hD hS => ?_)
  have hP : va_P G.1 CL (BAW G va cap yf ++ BAW G q1 x (va_cpy yf (fun _ => 0) 0 0 (min cap x))) _ := hP
  have hD : va_D A (BAW G va cap yf ++ BAW G q1 x (va_cpy yf (fun _ => 0) 0 0 (min cap x))) := hD
  refine lv_aload_n hx hb dJ10_copyOf_3_31 rfl (lv_at hl 0 rfl) ?_
  subst hQ
  exact ret_r hx hb hr (Or.inr ⟨_, rfl⟩) hlk () trivial hP hD hS dJ10_copyOf_3_32
set_option maxHeartbeats 4000000 in
set_option maxRecDepth 100000 in
theorem m_J2_ensureCapacityInternal__Lk (l : Launch) (G : GG) (sh : Nat) (va : Nat) (ml : Bool) (sn : Nat) (cap : Nat) (yf : Nat → Nat) (mn : Nat) (h1 : mn ≤ cap) (h2 : cap < 1000) : MM l G yJ2_ensureCapacityInternal cJ2_ensureCapacityInternal 3 none ⟨0, 0, 0, 0⟩ [.ref sh, .int (nI mn)] (SOW G sh va false ml sn ++ BAW G va cap yf) (Qv_ G (fun (_ : Unit) => True) (fun (_ : Unit) => (SOW G sh va false ml sn ++ BAW G va cap yf))) := by
  refine MM.of (by decide) (Nat.le_of_ble_eq_true rfl) ?_
  intro p e s m args below meth cd A C hini hA hK hZ hP hD ls hl
  generalize hQ : MQ below ((Qv_ G (fun (_ : Unit) => True) (fun (_ : Unit) => (SOW G sh va false ml sn ++ BAW G va cap yf))) A) args s (⟨0, 0, 0, 0⟩ : Room).cells (⟨0, 0, 0, 0⟩ : Room).slots A = Q
  obtain ⟨hx, hb, hr, hts, hown, hlk, hml⟩ := C
  have hown : s.vm.findClass RJ2 = some m.cls := hown
  have hS : va_S A s.heap s.heap [] := va_S.rf
  have hl : lv_has ls 3 [(0, .ref sh), (1, .int (nI mn))] := hl
  refine lv_aload_n hx hb dJ2_ensureCapacityInternal_0 rfl (lv_at hl 0 rfl) ?_
  refine va_get (D := G.1) (ci := 9) (v := .ref va) (C := RJ3) (T := TJ3) (N := 4) hx hb hts in_J3 hown hK hP 0 rfl rfl 0 (by decide) (hts _ q252) (fun _ h9 => h9) rfl dJ2_ensureCapacityInternal_1 ?_
  refine va_alen (v := nI cap) hx hb hK hP 1 1 rfl rfl rfl dJ2_ensureCapacityInternal_4 ?_
  refine lv_aload_n hx hb dJ2_ensureCapacityInternal_5 rfl (lv_at hl 0 rfl) ?_
  refine va_get (D := G.1) (ci := 9) (v := .int (bI false)) (C := RJ3) (T := TJ3) (N := 4) hx hb hts in_J3 hown hK hP 0 rfl rfl 1 (by decide) (hts _ q253) (fun _ h9 => h9) rfl dJ2_ensureCapacityInternal_6 ?_
  refine n_ishr 0 hx hb rfl (by decide) (by omega) dJ2_ensureCapacityInternal_9 ?_
  refine eq_i (y := nI cap) (congrArg nI (Nat.div_one _)) ?_
  refine lv_istore_n (lv' := [(2, .int (nI cap)), (0, .ref sh), (1, .int (nI mn))]) hx hb dJ2_ensureCapacityInternal_10 rfl hl (by decide) rfl (fun ls hl => ?_)
  refine lv_iload_n hx hb dJ2_ensureCapacityInternal_11 rfl (lv_at hl 2 rfl) ?_
  refine lv_iload_n hx hb dJ2_ensureCapacityInternal_12 rfl (lv_at hl 0 rfl) ?_
  refine lv_isub hx hb dJ2_ensureCapacityInternal_13 ?_
  refine lv_if_le (tgt := 38) hx hb dJ2_ensureCapacityInternal_14 (by decide) (fun c14 => ?_) (fun c14 => ?_)
  rotate_left
  · exact absurd (sub_le0 (by omega) (by omega)) c14
  subst hQ
  exact ret_v hx hb hr hlk () trivial hP hD hS dJ2_ensureCapacityInternal_38
set_option maxHeartbeats 4000000 in
set_option maxRecDepth 100000 in
theorem m_J2_ensureCapacityInternal__Uk (l : Launch) (G : GG) (sh : Nat) (va : Nat) (ml : Bool) (sn : Nat) (cap : Nat) (yf : Nat → Nat) (mn : Nat) (h1 : mn ≤ cap / 2) (h2 : cap < 1000) : MM l G yJ2_ensureCapacityInternal cJ2_ensureCapacityInternal 3 none ⟨0, 0, 0, 0⟩ [.ref sh, .int (nI mn)] (SOW G sh va true ml sn ++ BAW G va cap yf) (Qv_ G (fun (_ : Unit) => True) (fun (_ : Unit) => (SOW G sh va true ml sn ++ BAW G va cap yf))) := by
  refine MM.of (by decide) (Nat.le_of_ble_eq_true rfl) ?_
  intro p e s m args below meth cd A C hini hA hK hZ hP hD ls hl
  generalize hQ : MQ below ((Qv_ G (fun (_ : Unit) => True) (fun (_ : Unit) => (SOW G sh va true ml sn ++ BAW G va cap yf))) A) args s (⟨0, 0, 0, 0⟩ : Room).cells (⟨0, 0, 0, 0⟩ : Room).slots A = Q
  obtain ⟨hx, hb, hr, hts, hown, hlk, hml⟩ := C
  have hown : s.vm.findClass RJ2 = some m.cls := hown
  have hS : va_S A s.heap s.heap [] := va_S.rf
  have hl : lv_has ls 3 [(0, .ref sh), (1, .int (nI mn))] := hl
  refine lv_aload_n hx hb dJ2_ensureCapacityInternal_0 rfl (lv_at hl 0 rfl) ?_
  refine va_get (D := G.1) (ci := 9) (v := .ref va) (C := RJ3) (T := TJ3) (N := 4) hx hb hts in_J3 hown hK hP 0 rfl rfl 0 (by decide) (hts _ q252) (fun _ h9 => h9) rfl dJ2_ensureCapacityInternal_1 ?_
  refine va_alen (v := nI cap) hx hb hK hP 1 1 rfl rfl rfl dJ2_ensureCapacityInternal_4 ?_
  refine lv_aload_n hx hb dJ2_ensureCapacityInternal_5 rfl (lv_at hl 0 rfl) ?_
  refine va_get (D := G.1) (ci := 9) (v := .int (bI true)) (C := RJ3) (T := TJ3) (N := 4) hx hb hts in_J3 hown hK hP 0 rfl rfl 1 (by decide) (hts _ q253) (fun _ h9 => h9) rfl dJ2_ensureCapacityInternal_6 ?_
  refine n_ishr 1 hx hb rfl (by decide) (by omega) dJ2_ensureCapacityInternal_9 ?_
  refine eq_i (y := nI (cap / 2)) rfl ?_
  refine lv_istore_n (lv' := [(2, .int (nI (cap / 2))), (0, .ref sh), (1, .int (nI mn))]) hx hb dJ2_ensureCapacityInternal_10 rfl hl (by decide) rfl (fun ls hl => ?_)
  refine lv_iload_n hx hb dJ2_ensureCapacityInternal_11 rfl (lv_at hl 2 rfl) ?_
  refine lv_iload_n hx hb dJ2_ensureCapacityInternal_12 rfl (lv_at hl 0 rfl) ?_
  refine lv_isub hx hb dJ2_ensureCapacityInternal_13 ?_
  refine lv_if_le (tgt := 38) hx hb dJ2_ensureCapacityInternal_14 (by decide) (fun c14 => ?_) (fun c14 => ?_)
  rotate_left
  · exact absurd (sub_le0 (by omega) (by omega)) c14
  subst hQ
  exact ret_v hx hb hr hlk () trivial hP hD hS dJ2_ensureCapacityInternal_38
set_option maxHeartbeats 4000000 in
set_option maxRecDepth 100000 in
theorem m_J2_ensureCapacityInternal__Lg (l : Launch) (G : GG) (sh : Nat) (va : Nat) (ml : Bool) (sn : Nat) (cap : Nat) (yf : Nat → Nat) (mn : Nat) (h1 : cap < mn) (h2 : mn ≤ 61) : MM l G yJ2_ensureCapacityInternal cJ2_ensureCapacityInternal 3 none ⟨3, 1, 246, 62⟩ [.ref sh, .int (nI mn)] (SOW G sh va false ml sn ++ BAW G va cap yf) (Qv_ G (fun (u : (Nat)) => True) (fun (u : (Nat)) => (SOW G sh u false ml sn ++ BAW G u (cap + max (mn - cap) (cap + 2)) (va_cpy yf (fun _ => 0) 0 0 (min cap (cap + max (mn - cap) (cap + 2))))))) := by
  refine MM.of (by decide) (Nat.le_of_ble_eq_true rfl) ?_
  intro p e s m args below meth cd A C hini hA hK hZ hP hD ls hl
  generalize hQ : MQ below ((Qv_ G (fun (u : (Nat)) => True) (fun (u : (Nat)) => (SOW G sh u false ml sn ++ BAW G u (cap + max (mn - cap) (cap + 2)) (va_cpy yf (fun _ => 0) 0 0 (min cap (cap + max (mn - cap) (cap + 2))))))) A) args s (⟨3, 1, 246, 62⟩ : Room).cells (⟨3, 1, 246, 62⟩ : Room).slots A = Q
  obtain ⟨hx, hb, hr, hts, hown, hlk, hml⟩ := C
  have hown : s.vm.findClass RJ2 = some m.cls := hown
  have hS : va_S A s.heap s.heap [] := va_S.rf
  have hl : lv_has ls 3 [(0, .ref sh), (1, .int (nI mn))] := hl
  refine lv_aload_n hx hb dJ2_ensureCapacityInternal_0 rfl (lv_at hl 0 rfl) ?_
  refine va_get (D := G.1) (ci := 9) (v := .ref va) (C := RJ3) (T := TJ3) (N := 4) hx hb hts in_J3 hown hK hP 0 rfl rfl 0 (by decide) (hts _ q252) (fun _ h9 => h9) rfl dJ2_ensureCapacityInternal_1 ?_
  refine va_alen (v := nI cap) hx hb hK hP 1 1 rfl rfl rfl dJ2_ensureCapacityInternal_4 ?_
  refine lv_aload_n hx hb dJ2_ensureCapacityInternal_5 rfl (lv_at hl 0 rfl) ?_
  refine va_get (D := G.1) (ci := 9) (v := .int (bI false)) (C := RJ3) (T := TJ3) (N := 4) hx hb hts in_J3 hown hK hP 0 rfl rfl 1 (by decide) (hts _ q253) (fun _ h9 => h9) rfl dJ2_ensureCapacityInternal_6 ?_
  refine n_ishr 0 hx hb rfl (by decide) (by omega) dJ2_ensureCapacityInternal_9 ?_
  refine eq_i (y := nI cap) (congrArg nI (Nat.div_one _)) ?_
  refine lv_istore_n (lv' := [(2, .int (nI cap)), (0, .ref sh), (1, .int (nI mn))]) hx hb dJ2_ensureCapacityInternal_10 rfl hl (by decide) rfl (fun ls hl => ?_)
  refine lv_iload_n hx hb dJ2_ensureCapacityInternal_11 rfl (lv_at hl 2 rfl) ?_
  refine lv_iload_n hx hb dJ2_ensureCapacityInternal_12 rfl (lv_at hl 0 rfl) ?_
  refine n_isub hx hb (by omega) dJ2_ensureCapacityInternal_13 ?_
  refine n_if_le (tgt := 38) hx hb dJ2_ensureCapacityInternal_14 (by decide) (by omega) (fun c14 => ?_) (fun c14 => ?_)
  · exact absurd c14 (by omega)
  refine lv_aload_n hx hb dJ2_ensureCapacityInternal_17 rfl (lv_at hl 1 rfl) ?_
  refine lv_aload_n hx hb dJ2_ensureCapacityInternal_18 rfl (lv_at hl 1 rfl) ?_
  refine va_get (D := G.1) (ci := 9) (v := .ref va) (C := RJ3) (T := TJ3) (N := 4) hx hb hts in_J3 hown hK hP 0 rfl rfl 0 (by decide) (hts _ q252) (fun _ h9 => h9) rfl dJ2_ensureCapacityInternal_19 ?_
  refine lv_aload_n hx hb dJ2_ensureCapacityInternal_22 rfl (lv_at hl 1 rfl) ?_
  refine lv_iload_n hx hb dJ2_ensureCapacityInternal_23 rfl (lv_at hl 2 rfl) ?_
  refine callVi (As := [.int (nI mn)]) (rest := [.ref va, .ref sh]) (wc := (SOW G sh va false ml sn ++ BAW G va cap yf)) (wr := ([] : va_W)) ⟨hx, hb, hml, hown, hts⟩ (m_J2_newCapacity__L l G sh va ml sn cap yf mn (by first | assumption | omega) (by first | assumption | omega)) ⟨callB_of 1 hts (lw_meth q714) rfl rfl rfl (hts _ q93) (hts _ q711) (by decide +kernel) ⟨Nat.le_of_ble_eq_true rfl, Nat.le_of_ble_eq_true rfl⟩, hts _ q713, (hZ.selP (by decide) (lw_all_tbl q235) q712 (lw_all_tbl q713) (lw_all_tbl q2184))⟩ hK hZ hA hP hD hS [0, 1] [] rfl rfl (by decide) (by decide) (by decide) 0 9 rfl rfl rfl hl.1 (Nat.le_of_ble_eq_true rfl) ⟨Nat.le_of_ble_eq_true rfl, Nat.le_of_ble_eq_true rfl⟩ rfl dJ2_ensureCapacityInternal_24 (fun r9 u9 H locs hw9 hP hD hS => ?_)
  subst hw9
  have hP : va_P G.1 CL (SOW G sh va false ml sn ++ BAW G va cap yf) _ := hP
  have hD : va_D A (SOW G sh va false ml sn ++ BAW G va cap yf) := hD
  refine lv_aload_n hx hb dJ2_ensureCapacityInternal_27 rfl (lv_at hl 1 rfl) ?_
  refine va_get (D := G.1) (ci := 9) (v := .int (bI false)) (C := RJ3) (T := TJ3) (N := 4) hx hb hts in_J3 hown hK hP 0 rfl rfl 1 (by decide) (hts _ q253) (fun _ h9 => h9) rfl dJ2_ensureCapacityInternal_28 ?_
  refine n_ishl 0 hx hb rfl (by decide) (by omega) dJ2_ensureCapacityInternal_31 ?_
  refine eq_i (y := nI (cap + max (mn - cap) (cap + 2))) (congrArg nI (Nat.mul_one _)) ?_
  refine callSr (As := [.ref va, .int (nI (cap + max (mn - cap) (cap + 2)))]) (rest := [.ref sh]) (wc := (BAW G va cap yf)) (wr := (SOW G sh va false ml sn)) ⟨hx, hb, hml, hown, hts⟩ (m_J10_copyOf_3 l G va cap yf (cap + max (mn - cap) (cap + 2)) (by first | assumption | omega) (by first | assumption | omega)) (va_cwS 2 hts (lw_S q726 q727 q102 q728) rfl rfl rfl (by decide +kernel) ⟨Nat.le_of_ble_eq_true rfl, Nat.le_of_ble_eq_true rfl⟩) hK hZ hA hP hD hS [1] [0] rfl rfl (by decide) (by decide) (by decide) rfl hl.1 (Nat.le_of_ble_eq_true rfl) ⟨Nat.le_of_ble_eq_true rfl, Nat.le_of_ble_eq_true rfl⟩ rfl dJ2_ensureCapacityInternal_32 (fun r9 u9 H locs hw9 hP hD hS => ?_)
  refine W.widen (k := 1) (n := 246) (Nat.le_refl _) (Nat.le_refl _) ?_
  obtain ⟨r_2, e8⟩ : ∃ z, z = r9 := ⟨_, rfl⟩
  subst e8
  have hP : va_P G.1 CL (SOW G sh va false ml sn ++ BAW G va cap yf ++ BAW G r_2 (cap + max (mn - cap) (cap + 2)) (va_cpy yf (fun _ => 0) 0 0 (min cap (cap + max (mn - cap) (cap + 2))))) _ := hP
  have hD : va_D A (SOW G sh va false ml sn ++ BAW G va cap yf ++ BAW G r_2 (cap + max (mn - cap) (cap + 2)) (va_cpy yf (fun _ => 0) 0 0 (min cap (cap + max (mn - cap) (cap + 2))))) := hD
  refine va_put (D := G.1) (ci := 9) (v := .ref r_2) (C := RJ3) (T := TJ3) (N := 4) hx hb hts in_J3 tyJ3 tyJ3_ok nmJ3 hown hK hP hD hS 0 rfl rfl 0 (by decide) (hts _ q252) (fun _ h9 => h9) rfl (tyJ3_ok 0 (by decide)) rfl rfl (Nat.le_of_ble_eq_true rfl) dJ2_ensureCapacityInternal_35 (fun H locs hP hD hS => ?_)
  have hP : va_P G.1 CL (SOW G sh r_2 false ml sn ++ BAW G va cap yf ++ BAW G r_2 (cap + max (mn - cap) (cap + 2)) (va_cpy yf (fun _ => 0) 0 0 (min cap (cap + max (mn - cap) (cap + 2))))) _ := hP
  have hD : va_D A (SOW G sh r_2 false ml sn ++ BAW G va cap yf ++ BAW G r_2 (cap + max (mn - cap) (cap + 2)) (va_cpy yf (fun _ => 0) 0 0 (min cap (cap + max (mn - cap) (cap + 2))))) := hD
  obtain ⟨hP, hD⟩ := re_PD (w := (SOW G sh r_2 false ml sn ++ BAW G r_2 (cap + max (mn - cap) (cap + 2)) (va_cpy yf (fun _ => 0) 0 0 (min cap (cap + max (mn - cap) (cap + 2)))))) hP hD [0, 2] (by decide) rfl
  subst hQ
  exact ret_v hx hb hr hlk r_2 trivial hP hD hS dJ2_ensureCapacityInternal_38
set_option maxHeartbeats 4000000 in
set_option maxRecDepth 100000 in
theorem m_J2_ensureCapacityInternal__Ug (l : Launch) (G : GG) (sh : Nat) (va : Nat) (ml : Bool) (sn : Nat) (cap : Nat) (yf : Nat → Nat) (mn : Nat) (h1 : cap / 2 < mn) (h2 : mn ≤ 61) : MM l G yJ2_ensureCapacityInternal cJ2_ensureCapacityInternal 3 none ⟨3, 1, 246, 62⟩ [.ref sh, .int (nI mn)] (SOW G sh va true ml sn ++ BAW G va cap yf) (Qv_ G (fun (u : (Nat)) => True) (fun (u : (Nat)) => (SOW G sh u true ml sn ++ BAW G u (((cap + max (mn * 2 - cap) (cap + (2 * 2))) / 2) * 2) (va_cpy yf (fun _ => 0) 0 0 (min cap (((cap + max (mn * 2 - cap) (cap + (2 * 2))) / 2) * 2)))))) := by
  refine MM.of (by decide) (Nat.le_of_ble_eq_true rfl) ?_
  intro p e s m args below meth cd A C hini hA hK hZ hP hD ls hl
  generalize hQ : MQ below ((Qv_ G (fun (u : (Nat)) => True) (fun (u : (Nat)) => (SOW G sh u true ml sn ++ BAW G u (((cap + max (mn * 2 - cap) (cap + (2 * 2))) / 2) * 2) (va_cpy yf (fun _ => 0) 0 0 (min cap (((cap + max (mn * 2 - cap) (cap + (2 * 2))) / 2) * 2)))))) A) args s (⟨3, 1, 246, 62⟩ : Room).cells (⟨3, 1, 246, 62⟩ : Room).slots A = Q
  obtain ⟨hx, hb, hr, hts, hown, hlk, hml⟩ := C
  have hown : s.vm.findClass RJ2 = some m.cls := hown
  have hS : va_S A s.heap s.heap [] := va_S.rf
  have hl : lv_has ls 3 [(0, .ref sh), (1, .int (nI mn))] := hl
  refine lv_aload_n hx hb dJ2_ensureCapacityInternal_0 rfl (lv_at hl 0 rfl) ?_
  refine va_get (D := G.1) (ci := 9) (v := .ref va) (C := RJ3) (T := TJ3) (N := 4) hx hb hts in_J3 hown hK hP 0 rfl rfl 0 (by decide) (hts _ q252) (fun _ h9 => h9) rfl dJ2_ensureCapacityInternal_1 ?_
  refine va_alen (v := nI cap) hx hb hK hP 1 1 rfl rfl rfl dJ2_ensureCapacityInternal_4 ?_
  refine lv_aload_n hx hb dJ2_ensureCapacityInternal_5 rfl (lv_at hl 0 rfl) ?_
  refine va_get (D := G.1) (ci := 9) (v := .int (bI true)) (C := RJ3) (T := TJ3) (N := 4) hx hb hts in_J3 hown hK hP 0 rfl rfl 1 (by decide) (hts _ q253) (fun _ h9 => h9) rfl dJ2_ensureCapacityInternal_6 ?_
  refine n_ishr 1 hx hb rfl (by decide) (by omega) dJ2_ensureCapacityInternal_9 ?_
  refine eq_i (y := nI (cap / 2)) rfl ?_
  refine lv_istore_n (lv' := [(2, .int (nI (cap / 2))), (0, .ref sh), (1, .int (nI mn))]) hx hb dJ2_ensureCapacityInternal_10 rfl hl (by decide) rfl (fun ls hl => ?_)
  refine lv_iload_n hx hb dJ2_ensureCapacityInternal_11 rfl (lv_at hl 2 rfl) ?_
  refine lv_iload_n hx hb dJ2_ensureCapacityInternal_12 rfl (lv_at hl 0 rfl) ?_
  refine n_isub hx hb (by omega) dJ2_ensureCapacityInternal_13 ?_
  refine n_if_le (tgt := 38) hx hb dJ2_ensureCapacityInternal_14 (by decide) (by omega) (fun c14 => ?_) (fun c14 => ?_)
  · exact absurd c14 (by omega)
  refine lv_aload_n hx hb dJ2_ensureCapacityInternal_17 rfl (lv_at hl 1 rfl) ?_
  refine lv_aload_n hx hb dJ2_ensureCapacityInternal_18 rfl (lv_at hl 1 rfl) ?_
  refine va_get (D := G.1) (ci := 9) (v := .ref va) (C := RJ3) (T := TJ3) (N := 4) hx hb hts in_J3 hown hK hP 0 rfl rfl 0 (by decide) (hts _ q252) (fun _ h9 => h9) rfl dJ2_ensureCapacityInternal_19 ?_
  refine lv_aload_n hx hb dJ2_ensureCapacityInternal_22 rfl (lv_at hl 1 rfl) ?_
  refine lv_iload_n hx hb dJ2_ensureCapacityInternal_23 rfl (lv_at hl 2 rfl) ?_
  refine callVi (As := [.int (nI mn)]) (rest := [.ref va, .ref sh]) (wc := (SOW G sh va true ml sn ++ BAW G va cap yf)) (wr := ([] : va_W)) ⟨hx, hb, hml, hown, hts⟩ (m_J2_newCapacity__U l G sh va ml sn cap yf mn (by first | assumption | omega) (by first | assumption | omega)) ⟨callB_of 1 hts (lw_meth q714) rfl rfl rfl (hts _ q93) (hts _ q711) (by decide +kernel) ⟨Nat.le_of_ble_eq_true rfl, Nat.le_of_ble_eq_true rfl⟩, hts _ q713, (hZ.selP (by decide) (lw_all_tbl q235) q712 (lw_all_tbl q713) (lw_all_tbl q2184))⟩ hK hZ hA hP hD hS [0, 1] [] rfl rfl (by decide) (by decide) (by decide) 0 9 rfl rfl rfl hl.1 (Nat.le_of_ble_eq_true rfl) ⟨Nat.le_of_ble_eq_true rfl, Nat.le_of_ble_eq_true rfl⟩ rfl dJ2_ensureCapacityInternal_24 (fun r9 u9 H locs hw9 hP hD hS => ?_)
  subst hw9
  have hP : va_P G.1 CL (SOW G sh va true ml sn ++ BAW G va cap yf) _ := hP
  have hD : va_D A (SOW G sh va true ml sn ++ BAW G va cap yf) := hD
  refine lv_aload_n hx hb dJ2_ensureCapacityInternal_27 rfl (lv_at hl 1 rfl) ?_
  refine va_get (D := G.1) (ci := 9) (v := .int (bI true)) (C := RJ3) (T := TJ3) (N := 4) hx hb hts in_J3 hown hK hP 0 rfl rfl 1 (by decide) (hts _ q253) (fun _ h9 => h9) rfl dJ2_ensureCapacityInternal_28 ?_
  refine n_ishl 1 hx hb rfl (by decide) (by omega) dJ2_ensureCapacityInternal_31 ?_
  refine eq_i (y := nI (((cap + max (mn * 2 - cap) (cap + (2 * 2))) / 2) * 2)) rfl ?_
  refine callSr (As := [.ref va, .int (nI (((cap + max (mn * 2 - cap) (cap + (2 * 2))) / 2) * 2))]) (rest := [.ref sh]) (wc := (BAW G va cap yf)) (wr := (SOW G sh va true ml sn)) ⟨hx, hb, hml, hown, hts⟩ (m_J10_copyOf_3 l G va cap yf (((cap + max (mn * 2 - cap) (cap + (2 * 2))) / 2) * 2) (by first | assumption | omega) (by first | assumption | omega)) (va_cwS 2 hts (lw_S q726 q727 q102 q728) rfl rfl rfl (by decide +kernel) ⟨Nat.le_of_ble_eq_true rfl, Nat.le_of_ble_eq_true rfl⟩) hK hZ hA hP hD hS [1] [0] rfl rfl (by decide) (by decide) (by decide) rfl hl.1 (Nat.le_of_ble_eq_true rfl) ⟨Nat.le_of_ble_eq_true rfl, Nat.le_of_ble_eq_true rfl⟩ rfl dJ2_ensureCapacityInternal_32 (fun r9 u9 H locs hw9 hP hD hS => ?_)
  refine W.widen (k := 1) (n := 246) (Nat.le_refl _) (Nat.le_refl _) ?_
  obtain ⟨r_2, e8⟩ : ∃ z, z = r9 := ⟨_, rfl⟩
  subst e8
  have hP : va_P G.1 CL (SOW G sh va true ml sn ++ BAW G va cap yf ++ BAW G r_2 (((cap + max (mn * 2 - cap) (cap + (2 * 2))) / 2) * 2) (va_cpy yf (fun _ => 0) 0 0 (min cap (((cap + max (mn * 2 - cap) (cap + (2 * 2))) / 2) * 2)))) _ := hP
  have hD : va_D A (SOW G sh va true ml sn ++ BAW G va cap yf ++ BAW G r_2 (((cap + max (mn * 2 - cap) (cap + (2 * 2))) / 2) * 2) (va_cpy yf (fun _ => 0) 0 0 (min cap (((cap + max (mn * 2 - cap) (cap + (2 * 2))) / 2) * 2)))) := hD
  refine va_put (D := G.1) (ci := 9) (v := .ref r_2) (C := RJ3) (T := TJ3) (N := 4) hx hb hts in_J3 tyJ3 tyJ3_ok nmJ3 hown hK hP hD hS 0 rfl rfl 0 (by decide) (hts _ q252) (fun _ h9 => h9) rfl (tyJ3_ok 0 (by decide)) rfl rfl (Nat.le_of_ble_eq_true rfl) dJ2_ensureCapacityInternal_35 (fun H locs hP hD hS => ?_)
  have hP : va_P G.1 CL (SOW G sh r_2 true ml sn ++ BAW G va cap yf ++ BAW G r_2 (((cap + max (mn * 2 - cap) (cap + (2 * 2))) / 2) * 2) (va_cpy yf (fun _ => 0) 0 0 (min cap (((cap + max (mn * 2 - cap) (cap + (2 * 2))) / 2) * 2)))) _ := hP
  have hD : va_D A (SOW G sh r_2 true ml sn ++ BAW G va cap yf ++ BAW G r_2 (((cap + max (mn * 2 - cap) (cap + (2 * 2))) / 2) * 2) (va_cpy yf (fun _ => 0) 0 0 (min cap (((cap + max (mn * 2 - cap) (cap + (2 * 2))) / 2) * 2)))) := hD
  obtain ⟨hP, hD⟩ := re_PD (w := (SOW G sh r_2 true ml sn ++ BAW G r_2 (((cap + max (mn * 2 - cap) (cap + (2 * 2))) / 2) * 2) (va_cpy yf (fun _ => 0) 0 0 (min cap (((cap + max (mn * 2 - cap) (cap + (2 * 2))) / 2) * 2))))) hP hD [0, 2] (by decide) rfl
  subst hQ
  exact ret_v hx hb hr hlk r_2 trivial hP hD hS dJ2_ensureCapacityInternal_38
