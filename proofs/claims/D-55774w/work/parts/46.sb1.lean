/-! ===== StringBuilder, part 1 ===== -/
theorem MM.mono {l : Launch} {G : GG} {y : MethodName} {cc : ByteArray} {nL : Nat} {ret : Option FieldType} {rm : Room} {av : List Value} {ws : va_W} {Qf Qg : (Nat → Prop) → Array Value → State → Outcome → State → Prop} (h : MM l G y cc nL ret rm av ws Qf) (hq : ∀ A a s o t, Qf A a s o t → Qg A a s o t) : MM l G y cc nL ret rm av ws Qg := by
  intro sz p e h1 h2 h3 s m args below h4 h5 h6 h7
  obtain ⟨n, o, g1, g2, g3, g4, g5⟩ := h sz p e h1 h2 h3 s m args below h4 h5 h6 h7
  exact ⟨n, o, g1, g2, g3, hq _ _ _ _ _ g4, g5⟩
theorem nI_or {a b : Nat} (ha : a < 2147483648) (hb : b < 2147483648) : nI a ||| nI b = nI (a ||| b) := by
  apply Int32.toBitVec_inj.mp
  have e : (nI a ||| nI b).toBitVec = (nI a).toBitVec ||| (nI b).toBitVec := rfl
  rw [e]
  apply BitVec.eq_of_toNat_eq
  show (BitVec.ofNat 32 a ||| BitVec.ofNat 32 b).toNat = (BitVec.ofNat 32 (a ||| b)).toNat
  have h := Nat.or_lt_two_pow (n := 32) (show a < 2 ^ 32 by omega) (show b < 2 ^ 32 by omega)
  rw [BitVec.toNat_or, BitVec.toNat_ofNat, BitVec.toNat_ofNat, BitVec.toNat_ofNat, Nat.mod_eq_of_lt (by omega), Nat.mod_eq_of_lt (by omega), Nat.mod_eq_of_lt h]
theorem or31 {a b : Nat} (ha : a < 2147483648) (hb : b < 2147483648) : a ||| b < 2147483648 := Nat.or_lt_two_pow (n := 31) ha hb
theorem sub_le0 {a b : Nat} (h : a ≤ b) (hb : b < 1073741824) : nI a - nI b ≤ 0 := by
  have t := pk_sub_toInt (show a < 1073741824 by omega) hb
  rw [Int32.le_iff_toInt_le, t]; show _ ≤ (0 : Int); omega
abbrev SOW (G : GG) (h v : Nat) (cd ml : Bool) (n : Nat) : va_W := [(h, .inr (9, [.ref v, .int (bI cd), .int (bI ml), .int (nI n)]))]
abbrev SIW (G : GG) (h : Nat) (vv : Value) (cd ml : Bool) (n : Nat) : va_W := [(h, .inr (9, [vv, .int (bI cd), .int (bI ml), .int (nI n)]))]
set_option maxHeartbeats 4000000 in
set_option maxRecDepth 100000 in
theorem m_J5_newBytesLength (l : Launch) (G : GG) (x : Nat) (hx1 : x < 1000) : MM l G yJ5_newBytesLength cJ5_newBytesLength 1 (some .int) ⟨0, 0, 0, 0⟩ [.int (nI x)] ([] : va_W) (Qi_ G (fun (r : Int32) (_ : Unit) => r = nI (x * 2)) (fun (_ : Unit) => ([] : va_W))) := by
  refine MM.of (by decide) (Nat.le_of_ble_eq_true rfl) ?_
  intro p e s m args below meth cd A C hini hA hK hZ hP hD ls hl
  generalize hQ : MQ below ((Qi_ G (fun (r : Int32) (_ : Unit) => r = nI (x * 2)) (fun (_ : Unit) => ([] : va_W))) A) args s (⟨0, 0, 0, 0⟩ : Room).cells (⟨0, 0, 0, 0⟩ : Room).slots A = Q
  obtain ⟨hx, hb, hr, hts, hown, hlk, hml⟩ := C
  have hown : s.vm.findClass RJ5 = some m.cls := hown
  have hS : va_S A s.heap s.heap [] := va_S.rf
  have hl : lv_has ls 1 [(0, .int (nI x))] := hl
  refine lv_iload_n hx hb dJ5_newBytesLength_0 rfl (lv_at hl 0 rfl) ?_
  refine n_if_ge (tgt := 12) hx hb dJ5_newBytesLength_1 (by decide) (by omega) ?_
  refine lv_iload_n hx hb dJ5_newBytesLength_12 rfl (lv_at hl 0 rfl) ?_
  refine lv_ldc (v := nI 1073741823) hx hb hown (hts _ q251) dJ5_newBytesLength_13 ?_
  refine n_cmp_lt (tgt := 55) hx hb dJ5_newBytesLength_15 (by decide) (by omega) (by omega) (fun c15 => ?_) (fun c15 => ?_)
  rotate_left
  · exact absurd c15 (by omega)
  refine lv_iload_n hx hb dJ5_newBytesLength_55 rfl (lv_at hl 0 rfl) ?_
  refine lv_iconst (v := nI 1) hx hb dJ5_newBytesLength_56 (by decide) ?_
  refine n_ishl 1 hx hb rfl (by decide) (by omega) dJ5_newBytesLength_57 ?_
  refine eq_i (y := nI (x * 2)) rfl ?_
  subst hQ
  exact ret_i hx hb hr hlk () rfl hP hD hS rfl dJ5_newBytesLength_58
set_option maxHeartbeats 4000000 in
set_option maxRecDepth 100000 in
theorem m_J5_newBytesFor (l : Launch) (G : GG) (x : Nat) (hx1 : x ≤ 122) : MM l G yJ5_newBytesFor cJ5_newBytesFor 1 (some (.array .byte)) ⟨1, 1, 244, 20⟩ [.int (nI x)] ([] : va_W) (Qr_ G (fun (r : Nat) (_ : Unit) => True) (fun (r : Nat) (_ : Unit) => (BAW G r (x * 2) (fun _ => 0)))) := by
  refine MM.of (by decide) (Nat.le_of_ble_eq_true rfl) ?_
  intro p e s m args below meth cd A C hini hA hK hZ hP hD ls hl
  generalize hQ : MQ below ((Qr_ G (fun (r : Nat) (_ : Unit) => True) (fun (r : Nat) (_ : Unit) => (BAW G r (x * 2) (fun _ => 0)))) A) args s (⟨1, 1, 244, 20⟩ : Room).cells (⟨1, 1, 244, 20⟩ : Room).slots A = Q
  obtain ⟨hx, hb, hr, hts, hown, hlk, hml⟩ := C
  have hown : s.vm.findClass RJ5 = some m.cls := hown
  have hS : va_S A s.heap s.heap [] := va_S.rf
  have hl : lv_has ls 1 [(0, .int (nI x))] := hl
  refine lv_iload_n hx hb dJ5_newBytesFor_0 rfl (lv_at hl 0 rfl) ?_
  refine callSi (As := [.int (nI x)]) (rest := []) (wc := ([] : va_W)) (wr := ([] : va_W)) ⟨hx, hb, hml, hown, hts⟩ (m_J5_newBytesLength l G x (by first | assumption | omega)) (va_cwS 1 hts (lw_S q248 q249 q96 q250) rfl rfl rfl (by decide +kernel) ⟨Nat.le_of_ble_eq_true rfl, Nat.le_of_ble_eq_true rfl⟩) hK hZ hA hP hD hS [] [] rfl rfl (by decide) (by decide) (by decide) rfl hl.1 (Nat.le_of_ble_eq_true rfl) ⟨Nat.le_of_ble_eq_true rfl, Nat.le_of_ble_eq_true rfl⟩ rfl dJ5_newBytesFor_1 (fun r9 u9 H locs hw9 hP hD hS => ?_)
  subst hw9
  have hP : va_P G.1 CL ([] : va_W) _ := hP
  have hD : va_D A ([] : va_W) := hD
  refine nw_byte hx hb (hts _ q266) hK hP hD hS hA 1 rfl (n := (x * 2)) (by omega) (by show 0 + 1 ≤ 1; omega) (by show 0 + (x * 2) ≤ 244; omega) dJ5_newBytesFor_4 (fun q2 H hP hD hS => ?_)
  refine W.widen (k := 1) (n := 244) (by show 0 + 1 ≤ 1; omega) (by show 0 + (x * 2) ≤ 244; omega) ?_
  rw [bB_0] at hP hD
  have hP : va_P G.1 CL (BAW G q2 (x * 2) (fun _ => 0)) _ := hP
  have hD : va_D A (BAW G q2 (x * 2) (fun _ => 0)) := hD
  subst hQ
  exact ret_r hx hb hr (Or.inr ⟨_, rfl⟩) hlk () trivial hP hD hS dJ5_newBytesFor_6
set_option maxHeartbeats 4000000 in
set_option maxRecDepth 100000 in
theorem m_J5_length (l : Launch) (G : GG) (va : Nat) (cap : Nat) (yf : Nat → Nat) (hc : cap < 2147483648) : MM l G yJ5_length cJ5_length 1 (some .int) ⟨0, 0, 0, 0⟩ [.ref va] (BAW G va cap yf) (Qi_ G (fun (r : Int32) (_ : Unit) => r = nI (cap / 2)) (fun (_ : Unit) => (BAW G va cap yf))) := by
  refine MM.of (by decide) (Nat.le_of_ble_eq_true rfl) ?_
  intro p e s m args below meth cd A C hini hA hK hZ hP hD ls hl
  generalize hQ : MQ below ((Qi_ G (fun (r : Int32) (_ : Unit) => r = nI (cap / 2)) (fun (_ : Unit) => (BAW G va cap yf))) A) args s (⟨0, 0, 0, 0⟩ : Room).cells (⟨0, 0, 0, 0⟩ : Room).slots A = Q
  obtain ⟨hx, hb, hr, hts, hown, hlk, hml⟩ := C
  have hown : s.vm.findClass RJ5 = some m.cls := hown
  have hS : va_S A s.heap s.heap [] := va_S.rf
  have hl : lv_has ls 1 [(0, .ref va)] := hl
  refine lv_aload_n hx hb dJ5_length_0 rfl (lv_at hl 0 rfl) ?_
  refine va_alen (v := nI cap) hx hb hK hP 0 1 rfl rfl rfl dJ5_length_1 ?_
  refine lv_iconst (v := nI 1) hx hb dJ5_length_2 (by decide) ?_
  refine n_ishr 1 hx hb rfl (by decide) (by omega) dJ5_length_3 ?_
  refine eq_i (y := nI (cap / 2)) rfl ?_
  subst hQ
  exact ret_i hx hb hr hlk () rfl hP hD hS rfl dJ5_length_4
set_option maxHeartbeats 4000000 in
set_option maxRecDepth 100000 in
theorem m_J22_checkIndex (l : Launch) (G : GG) (i : Nat) (z : Nat) (o : Option Nat) (hi : i < z) (hz : z < 2147483648) : MM l G yJ22_checkIndex cJ22_checkIndex 3 (some .int) ⟨0, 0, 0, 0⟩ [.int (nI i), .int (nI z), (va_rf o)] ([] : va_W) (Qi_ G (fun (r : Int32) (_ : Unit) => r = nI i) (fun (_ : Unit) => ([] : va_W))) := by
  rcases o with _ | o
  · skip
    refine MM.of (by decide) (Nat.le_of_ble_eq_true rfl) ?_
    intro p e s m args below meth cd A C hini hA hK hZ hP hD ls hl
    generalize hQ : MQ below ((Qi_ G (fun (r : Int32) (_ : Unit) => r = nI i) (fun (_ : Unit) => ([] : va_W))) A) args s (⟨0, 0, 0, 0⟩ : Room).cells (⟨0, 0, 0, 0⟩ : Room).slots A = Q
    obtain ⟨hx, hb, hr, hts, hown, hlk, hml⟩ := C
    have hown : s.vm.findClass RJ22 = some m.cls := hown
    have hS : va_S A s.heap s.heap [] := va_S.rf
    have hl : lv_has ls 3 [(0, .int (nI i)), (1, .int (nI z)), (2, .null)] := hl
    refine lv_iload_n hx hb dJ22_checkIndex_0 rfl (lv_at hl 0 rfl) ?_
    refine n_if_lt (tgt := 9) hx hb dJ22_checkIndex_1 (by decide) (by omega) ?_
    refine lv_iload_n hx hb dJ22_checkIndex_4 rfl (lv_at hl 0 rfl) ?_
    refine lv_iload_n hx hb dJ22_checkIndex_5 rfl (lv_at hl 1 rfl) ?_
    refine n_cmp_lt (tgt := 16) hx hb dJ22_checkIndex_6 (by decide) (by omega) (by omega) (fun c6 => ?_) (fun c6 => ?_)
    rotate_left
    · exact absurd c6 (by omega)
    refine lv_iload_n hx hb dJ22_checkIndex_16 rfl (lv_at hl 0 rfl) ?_
    subst hQ
    exact ret_i hx hb hr hlk () rfl hP hD hS rfl dJ22_checkIndex_17
  · skip
    refine MM.of (by decide) (Nat.le_of_ble_eq_true rfl) ?_
    intro p e s m args below meth cd A C hini hA hK hZ hP hD ls hl
    generalize hQ : MQ below ((Qi_ G (fun (r : Int32) (_ : Unit) => r = nI i) (fun (_ : Unit) => ([] : va_W))) A) args s (⟨0, 0, 0, 0⟩ : Room).cells (⟨0, 0, 0, 0⟩ : Room).slots A = Q
    obtain ⟨hx, hb, hr, hts, hown, hlk, hml⟩ := C
    have hown : s.vm.findClass RJ22 = some m.cls := hown
    have hS : va_S A s.heap s.heap [] := va_S.rf
    have hl : lv_has ls 3 [(0, .int (nI i)), (1, .int (nI z)), (2, .ref o)] := hl
    refine lv_iload_n hx hb dJ22_checkIndex_0 rfl (lv_at hl 0 rfl) ?_
    refine n_if_lt (tgt := 9) hx hb dJ22_checkIndex_1 (by decide) (by omega) ?_
    refine lv_iload_n hx hb dJ22_checkIndex_4 rfl (lv_at hl 0 rfl) ?_
    refine lv_iload_n hx hb dJ22_checkIndex_5 rfl (lv_at hl 1 rfl) ?_
    refine n_cmp_lt (tgt := 16) hx hb dJ22_checkIndex_6 (by decide) (by omega) (by omega) (fun c6 => ?_) (fun c6 => ?_)
    rotate_left
    · exact absurd c6 (by omega)
    refine lv_iload_n hx hb dJ22_checkIndex_16 rfl (lv_at hl 0 rfl) ?_
    subst hQ
    exact ret_i hx hb hr hlk () rfl hP hD hS rfl dJ22_checkIndex_17
set_option maxHeartbeats 4000000 in
set_option maxRecDepth 100000 in
theorem m_J4_checkIndex (l : Launch) (G : GG) (i : Nat) (z : Nat) (hi : i < z) (hz : z < 2147483648) : MM l G yJ4_checkIndex cJ4_checkIndex 2 none ⟨1, 0, 0, 22⟩ [.int (nI i), .int (nI z)] ([] : va_W) (Qv_ G (fun (_ : Unit) => True) (fun (_ : Unit) => ([] : va_W))) := by
  refine MM.of (by decide) (Nat.le_of_ble_eq_true rfl) ?_
  intro p e s m args below meth cd A C hini hA hK hZ hP hD ls hl
  generalize hQ : MQ below ((Qv_ G (fun (_ : Unit) => True) (fun (_ : Unit) => ([] : va_W))) A) args s (⟨1, 0, 0, 22⟩ : Room).cells (⟨1, 0, 0, 22⟩ : Room).slots A = Q
  obtain ⟨hx, hb, hr, hts, hown, hlk, hml⟩ := C
  have hown : s.vm.findClass RJ4 = some m.cls := hown
  have hS : va_S A s.heap s.heap [] := va_S.rf
  have hl : lv_has ls 2 [(0, .int (nI i)), (1, .int (nI z))] := hl
  refine lv_iload_n hx hb dJ4_checkIndex_0 rfl (lv_at hl 0 rfl) ?_
  refine lv_iload_n hx hb dJ4_checkIndex_1 rfl (lv_at hl 1 rfl) ?_
  obtain ⟨oF9, hoF9⟩ := hZ.zSF
  refine get_s (G := G) hx hb hoF9 hS hown (hts _ q753) dJ4_checkIndex_2 ?_
  refine callSi (As := [.int (nI i), .int (nI z), (va_rf oF9)]) (rest := []) (wc := ([] : va_W)) (wr := ([] : va_W)) ⟨hx, hb, hml, hown, hts⟩ (m_J22_checkIndex l G i z oF9 (by first | assumption | omega) (by first | assumption | omega)) (va_cwS 3 hts (lw_S q989 q990 q119 q991) rfl rfl rfl (by decide +kernel) ⟨Nat.le_of_ble_eq_true rfl, Nat.le_of_ble_eq_true rfl⟩) hK hZ hA hP hD hS [] [] rfl rfl (by decide) (by decide) (by decide) rfl hl.1 (Nat.le_of_ble_eq_true rfl) ⟨Nat.le_of_ble_eq_true rfl, Nat.le_of_ble_eq_true rfl⟩ rfl dJ4_checkIndex_5 (fun r9 u9 H locs hw9 hP hD hS => ?_)
  subst hw9
  have hP : va_P G.1 CL ([] : va_W) _ := hP
  have hD : va_D A ([] : va_W) := hD
  refine lv_pop hx hb dJ4_checkIndex_8 rfl ?_
  subst hQ
  exact ret_v hx hb hr hlk () trivial hP hD hS dJ4_checkIndex_9
set_option maxHeartbeats 4000000 in
set_option maxRecDepth 100000 in
theorem m_J5_checkIndex (l : Launch) (G : GG) (va : Nat) (cap : Nat) (yf : Nat → Nat) (i : Nat) (hi : i < cap / 2) (hc : cap < 2147483648) : MM l G yJ5_checkIndex cJ5_checkIndex 2 none ⟨2, 0, 0, 43⟩ [.int (nI i), .ref va] (BAW G va cap yf) (Qv_ G (fun (_ : Unit) => True) (fun (_ : Unit) => (BAW G va cap yf))) := by
  refine MM.of (by decide) (Nat.le_of_ble_eq_true rfl) ?_
  intro p e s m args below meth cd A C hini hA hK hZ hP hD ls hl
  generalize hQ : MQ below ((Qv_ G (fun (_ : Unit) => True) (fun (_ : Unit) => (BAW G va cap yf))) A) args s (⟨2, 0, 0, 43⟩ : Room).cells (⟨2, 0, 0, 43⟩ : Room).slots A = Q
  obtain ⟨hx, hb, hr, hts, hown, hlk, hml⟩ := C
  have hown : s.vm.findClass RJ5 = some m.cls := hown
  have hS : va_S A s.heap s.heap [] := va_S.rf
  have hl : lv_has ls 2 [(0, .int (nI i)), (1, .ref va)] := hl
  refine lv_iload_n hx hb dJ5_checkIndex_0 rfl (lv_at hl 0 rfl) ?_
  refine lv_aload_n hx hb dJ5_checkIndex_1 rfl (lv_at hl 1 rfl) ?_
  refine callSi (As := [.ref va]) (rest := [.int (nI i)]) (wc := (BAW G va cap yf)) (wr := ([] : va_W)) ⟨hx, hb, hml, hown, hts⟩ (m_J5_length l G va cap yf (by first | assumption | omega)) (va_cwS 1 hts (lw_S q747 q748 q96 q749) rfl rfl rfl (by decide +kernel) ⟨Nat.le_of_ble_eq_true rfl, Nat.le_of_ble_eq_true rfl⟩) hK hZ hA hP hD hS [0] [] rfl rfl (by decide) (by decide) (by decide) rfl hl.1 (Nat.le_of_ble_eq_true rfl) ⟨Nat.le_of_ble_eq_true rfl, Nat.le_of_ble_eq_true rfl⟩ rfl dJ5_checkIndex_2 (fun r9 u9 H locs hw9 hP hD hS => ?_)
  subst hw9
  have hP : va_P G.1 CL (BAW G va cap yf) _ := hP
  have hD : va_D A (BAW G va cap yf) := hD
  refine callSv (As := [.int (nI i), .int (nI (cap / 2))]) (rest := []) (wc := ([] : va_W)) (wr := (BAW G va cap yf)) ⟨hx, hb, hml, hown, hts⟩ (m_J4_checkIndex l G i (cap / 2) (by first | assumption | omega) (by first | assumption | omega)) (va_cwS 2 hts (lw_S q986 q987 q95 q988) rfl rfl rfl (by decide +kernel) ⟨Nat.le_of_ble_eq_true rfl, Nat.le_of_ble_eq_true rfl⟩) hK hZ hA hP hD hS [] [0] rfl rfl (by decide) (by decide) (by decide) rfl hl.1 (Nat.le_of_ble_eq_true rfl) ⟨Nat.le_of_ble_eq_true rfl, Nat.le_of_ble_eq_true rfl⟩ rfl dJ5_checkIndex_5 (fun u9 H locs hw9 hP hD hS => ?_)
  have hP : va_P G.1 CL (BAW G va cap yf) _ := hP
  have hD : va_D A (BAW G va cap yf) := hD
  subst hQ
  exact ret_v hx hb hr hlk () trivial hP hD hS dJ5_checkIndex_8
set_option maxHeartbeats 4000000 in
set_option maxRecDepth 100000 in
theorem m_J5_putChar (l : Launch) (G : GG) (va : Nat) (cap : Nat) (yf : Nat → Nat) (i : Nat) (x : Nat) (hi : i < cap / 2) (hc : cap < 65536) (hx1 : x < 65536) : MM l G yJ5_putChar cJ5_putChar 3 none ⟨0, 0, 0, 0⟩ [.ref va, .int (nI i), .int (nI x)] (BAW G va cap yf) (Qv_ G (fun (_ : Unit) => True) (fun (_ : Unit) => (BAW G va cap (va_up (va_up yf (i * 2) x) ((i * 2) + 1) (x / 256))))) := by
  refine MM.of (by decide) (Nat.le_of_ble_eq_true rfl) ?_
  intro p e s m args below meth cd A C hini hA hK hZ hP hD ls hl
  generalize hQ : MQ below ((Qv_ G (fun (_ : Unit) => True) (fun (_ : Unit) => (BAW G va cap (va_up (va_up yf (i * 2) x) ((i * 2) + 1) (x / 256))))) A) args s (⟨0, 0, 0, 0⟩ : Room).cells (⟨0, 0, 0, 0⟩ : Room).slots A = Q
  obtain ⟨hx, hb, hr, hts, hown, hlk, hml⟩ := C
  have hown : s.vm.findClass RJ5 = some m.cls := hown
  have hS : va_S A s.heap s.heap [] := va_S.rf
  have hl : lv_has ls 3 [(0, .ref va), (1, .int (nI i)), (2, .int (nI x))] := hl
  refine get_s (G := G) hx hb hZ.zAD hS hown (hts _ q761) dJ5_putChar_0 ?_
  refine n_if_ne (tgt := 28) hx hb dJ5_putChar_3 (by decide) (by decide) (fun c3 => ?_) (fun c3 => ?_)
  rotate_left
  · exact absurd c3 (by decide)
  refine lv_iload_n hx hb dJ5_putChar_28 rfl (lv_at hl 1 rfl) ?_
  refine lv_iconst (v := nI 1) hx hb dJ5_putChar_29 (by decide) ?_
  refine n_ishl 1 hx hb rfl (by decide) (by omega) dJ5_putChar_30 ?_
  refine eq_i (y := nI (i * 2)) rfl ?_
  refine lv_istore_n (lv' := [(1, .int (nI (i * 2))), (0, .ref va), (2, .int (nI x))]) hx hb dJ5_putChar_31 rfl hl (by decide) rfl (fun ls hl => ?_)
  refine lv_aload_n hx hb dJ5_putChar_32 rfl (lv_at hl 1 rfl) ?_
  refine lv_iload_n hx hb dJ5_putChar_33 rfl (lv_at hl 0 rfl) ?_
  refine lv_iinc (v := nI ((i * 2) + 1)) (lv' := [(1, .int (nI ((i * 2) + 1))), (0, .ref va), (2, .int (nI x))]) hx hb dJ5_putChar_34 hl (k := 0) rfl (nI_add _ _) (by decide) rfl (fun ls hl => ?_)
  refine lv_iload_n hx hb dJ5_putChar_37 rfl (lv_at hl 2 rfl) ?_
  refine get_s (G := G) hx hb hZ.zHI hS hown (hts _ q763) dJ5_putChar_38 ?_
  refine n_ishr 0 hx hb rfl (by decide) (by omega) dJ5_putChar_41 ?_
  refine eq_i (y := nI x) (congrArg nI (Nat.div_one _)) ?_
  refine lv_i2b (v := b8 x) hx hb dJ5_putChar_42 rfl ?_
  refine y_bast hx hb hK hP hD hS 0 1 rfl rfl (by omega) (by omega) dJ5_putChar_43 (fun H locs hP hD hS => ?_)
  have hP : va_P G.1 CL (BAW G va cap (va_up yf (i * 2) x)) _ := hP
  have hD : va_D A (BAW G va cap (va_up yf (i * 2) x)) := hD
  refine lv_aload_n hx hb dJ5_putChar_44 rfl (lv_at hl 1 rfl) ?_
  refine lv_iload_n hx hb dJ5_putChar_45 rfl (lv_at hl 0 rfl) ?_
  refine lv_iload_n hx hb dJ5_putChar_46 rfl (lv_at hl 2 rfl) ?_
  refine get_s (G := G) hx hb hZ.zLO hS hown (hts _ q765) dJ5_putChar_47 ?_
  refine n_ishr 8 hx hb rfl (by decide) (by omega) dJ5_putChar_50 ?_
  refine eq_i (y := nI (x / 256)) rfl ?_
  refine lv_i2b (v := b8 (x / 256)) hx hb dJ5_putChar_51 rfl ?_
  refine y_bast hx hb hK hP hD hS 0 1 rfl rfl (by omega) (by omega) dJ5_putChar_52 (fun H locs hP hD hS => ?_)
  have hP : va_P G.1 CL (BAW G va cap (va_up (va_up yf (i * 2) x) ((i * 2) + 1) (x / 256))) _ := hP
  have hD : va_D A (BAW G va cap (va_up (va_up yf (i * 2) x) ((i * 2) + 1) (x / 256))) := hD
  subst hQ
  exact ret_v hx hb hr hlk () trivial hP hD hS dJ5_putChar_53
set_option maxHeartbeats 4000000 in
set_option maxRecDepth 100000 in
theorem m_J5_putCharSB (l : Launch) (G : GG) (va : Nat) (cap : Nat) (yf : Nat → Nat) (i : Nat) (x : Nat) (hi : i < cap / 2) (hc : cap < 65536) (hx1 : x < 65536) : MM l G yJ5_putCharSB cJ5_putCharSB 3 none ⟨3, 0, 0, 64⟩ [.ref va, .int (nI i), .int (nI x)] (BAW G va cap yf) (Qv_ G (fun (_ : Unit) => True) (fun (_ : Unit) => (BAW G va cap (va_up (va_up yf (i * 2) x) ((i * 2) + 1) (x / 256))))) := by
  refine MM.of (by decide) (Nat.le_of_ble_eq_true rfl) ?_
  intro p e s m args below meth cd A C hini hA hK hZ hP hD ls hl
  generalize hQ : MQ below ((Qv_ G (fun (_ : Unit) => True) (fun (_ : Unit) => (BAW G va cap (va_up (va_up yf (i * 2) x) ((i * 2) + 1) (x / 256))))) A) args s (⟨3, 0, 0, 64⟩ : Room).cells (⟨3, 0, 0, 64⟩ : Room).slots A = Q
  obtain ⟨hx, hb, hr, hts, hown, hlk, hml⟩ := C
  have hown : s.vm.findClass RJ5 = some m.cls := hown
  have hS : va_S A s.heap s.heap [] := va_S.rf
  have hl : lv_has ls 3 [(0, .ref va), (1, .int (nI i)), (2, .int (nI x))] := hl
  refine lv_iload_n hx hb dJ5_putCharSB_0 rfl (lv_at hl 1 rfl) ?_
  refine lv_aload_n hx hb dJ5_putCharSB_1 rfl (lv_at hl 0 rfl) ?_
  refine callSv (As := [.int (nI i), .ref va]) (rest := []) (wc := (BAW G va cap yf)) (wr := ([] : va_W)) ⟨hx, hb, hml, hown, hts⟩ (m_J5_checkIndex l G va cap yf i (by first | assumption | omega) (by first | assumption | omega)) (va_cwS 2 hts (lw_S q983 q984 q96 q985) rfl rfl rfl (by decide +kernel) ⟨Nat.le_of_ble_eq_true rfl, Nat.le_of_ble_eq_true rfl⟩) hK hZ hA hP hD hS [0] [] rfl rfl (by decide) (by decide) (by decide) rfl hl.1 (Nat.le_of_ble_eq_true rfl) ⟨Nat.le_of_ble_eq_true rfl, Nat.le_of_ble_eq_true rfl⟩ rfl dJ5_putCharSB_2 (fun u9 H locs hw9 hP hD hS => ?_)
  have hP : va_P G.1 CL (BAW G va cap yf) _ := hP
  have hD : va_D A (BAW G va cap yf) := hD
  refine lv_aload_n hx hb dJ5_putCharSB_5 rfl (lv_at hl 0 rfl) ?_
  refine lv_iload_n hx hb dJ5_putCharSB_6 rfl (lv_at hl 1 rfl) ?_
  refine lv_iload_n hx hb dJ5_putCharSB_7 rfl (lv_at hl 2 rfl) ?_
  refine callSv (As := [.ref va, .int (nI i), .int (nI x)]) (rest := []) (wc := (BAW G va cap yf)) (wr := ([] : va_W)) ⟨hx, hb, hml, hown, hts⟩ (m_J5_putChar l G va cap yf i x (by first | assumption | omega) (by first | assumption | omega) (by first | assumption | omega)) (va_cwS 3 hts (lw_S q758 q759 q96 q760) rfl rfl rfl (by decide +kernel) ⟨Nat.le_of_ble_eq_true rfl, Nat.le_of_ble_eq_true rfl⟩) hK hZ hA hP hD hS [0] [] rfl rfl (by decide) (by decide) (by decide) rfl hl.1 (Nat.le_of_ble_eq_true rfl) ⟨Nat.le_of_ble_eq_true rfl, Nat.le_of_ble_eq_true rfl⟩ rfl dJ5_putCharSB_8 (fun u9 H locs hw9 hP hD hS => ?_)
  have hP : va_P G.1 CL (BAW G va cap (va_up (va_up yf (i * 2) x) ((i * 2) + 1) (x / 256))) _ := hP
  have hD : va_D A (BAW G va cap (va_up (va_up yf (i * 2) x) ((i * 2) + 1) (x / 256))) := hD
  subst hQ
  exact ret_v hx hb hr hlk () trivial hP hD hS dJ5_putCharSB_11
set_option maxHeartbeats 4000000 in
set_option maxRecDepth 100000 in
theorem m_J5_getChar (l : Launch) (G : GG) (va : Nat) (cap : Nat) (yf : Nat → Nat) (i : Nat) (hi : i < cap / 2) (hc : cap < 65536) : MM l G yJ5_getChar cJ5_getChar 2 (some .char) ⟨0, 0, 0, 0⟩ [.ref va, .int (nI i)] (BAW G va cap yf) (Qi_ G (fun (r : Int32) (_ : Unit) => r = nI (yf (i * 2) % 256 + yf (i * 2 + 1) % 256 * 256)) (fun (_ : Unit) => (BAW G va cap yf))) := by
  refine MM.of (by decide) (Nat.le_of_ble_eq_true rfl) ?_
  intro p e s m args below meth cd A C hini hA hK hZ hP hD ls hl
  generalize hQ : MQ below ((Qi_ G (fun (r : Int32) (_ : Unit) => r = nI (yf (i * 2) % 256 + yf (i * 2 + 1) % 256 * 256)) (fun (_ : Unit) => (BAW G va cap yf))) A) args s (⟨0, 0, 0, 0⟩ : Room).cells (⟨0, 0, 0, 0⟩ : Room).slots A = Q
  obtain ⟨hx, hb, hr, hts, hown, hlk, hml⟩ := C
  have hown : s.vm.findClass RJ5 = some m.cls := hown
  have hS : va_S A s.heap s.heap [] := va_S.rf
  have hl : lv_has ls 2 [(0, .ref va), (1, .int (nI i))] := hl
  refine get_s (G := G) hx hb hZ.zAD hS hown (hts _ q761) dJ5_getChar_0 ?_
  refine n_if_ne (tgt := 28) hx hb dJ5_getChar_3 (by decide) (by decide) (fun c3 => ?_) (fun c3 => ?_)
  rotate_left
  · exact absurd c3 (by decide)
  refine lv_iload_n hx hb dJ5_getChar_28 rfl (lv_at hl 1 rfl) ?_
  refine lv_iconst (v := nI 1) hx hb dJ5_getChar_29 (by decide) ?_
  refine n_ishl 1 hx hb rfl (by decide) (by omega) dJ5_getChar_30 ?_
  refine eq_i (y := nI (i * 2)) rfl ?_
  refine lv_istore_n (lv' := [(1, .int (nI (i * 2))), (0, .ref va)]) hx hb dJ5_getChar_31 rfl hl (by decide) rfl (fun ls hl => ?_)
  refine lv_aload_n hx hb dJ5_getChar_32 rfl (lv_at hl 1 rfl) ?_
  refine lv_iload_n hx hb dJ5_getChar_33 rfl (lv_at hl 0 rfl) ?_
  refine lv_iinc (v := nI ((i * 2) + 1)) (lv' := [(1, .int (nI ((i * 2) + 1))), (0, .ref va)]) hx hb dJ5_getChar_34 hl (k := 0) rfl (nI_add _ _) (by decide) rfl (fun ls hl => ?_)
  refine y_bald hx hb hK hP 0 1 rfl rfl (by omega) (by omega) dJ5_getChar_37 ?_
  refine lv_sipush (v := nI 255) hx hb dJ5_getChar_38 (by decide) ?_
  refine lv_iand hx hb dJ5_getChar_41 ?_
  refine eq_i (y := nI ((yf (i * 2)) % 256)) (b8_and _) ?_
  refine get_s (G := G) hx hb hZ.zHI hS hown (hts _ q763) dJ5_getChar_42 ?_
  refine n_ishl 0 hx hb rfl (by decide) (by omega) dJ5_getChar_45 ?_
  refine eq_i (y := nI ((yf (i * 2)) % 256)) (congrArg nI (Nat.mul_one _)) ?_
  refine lv_aload_n hx hb dJ5_getChar_46 rfl (lv_at hl 1 rfl) ?_
  refine lv_iload_n hx hb dJ5_getChar_47 rfl (lv_at hl 0 rfl) ?_
  refine y_bald hx hb hK hP 0 1 rfl rfl (by omega) (by omega) dJ5_getChar_48 ?_
  refine lv_sipush (v := nI 255) hx hb dJ5_getChar_49 (by decide) ?_
  refine lv_iand hx hb dJ5_getChar_52 ?_
  refine eq_i (y := nI ((yf ((i * 2) + 1)) % 256)) (b8_and _) ?_
  refine get_s (G := G) hx hb hZ.zLO hS hown (hts _ q765) dJ5_getChar_53 ?_
  refine n_ishl 8 hx hb rfl (by decide) (by omega) dJ5_getChar_56 ?_
  refine eq_i (y := nI (((yf ((i * 2) + 1)) % 256) * 256)) rfl ?_
  refine lv_ior hx hb dJ5_getChar_57 ?_
  refine eq_i (y := nI (yf (i * 2) % 256 + yf (i * 2 + 1) % 256 * 256)) (or8 (Nat.mod_lt _ (by decide)) (Nat.mod_lt _ (by decide))) ?_
  refine n_i2c hx hb (by omega) dJ5_getChar_58 ?_
  subst hQ
  exact ret_i hx hb hr hlk () rfl hP hD hS (pk_charN (by omega)).1 dJ5_getChar_59
set_option maxHeartbeats 4000000 in
set_option maxRecDepth 100000 in
theorem m_J23_canEncode (l : Launch) (G : GG) (x : Nat) (hx1 : x < 65536) : MM l G yJ23_canEncode cJ23_canEncode 1 (some .boolean) ⟨0, 0, 0, 0⟩ [.int (nI x)] ([] : va_W) (Qi_ G (fun (r : Int32) (_ : Unit) => r = bI (decide (x < 256))) (fun (_ : Unit) => ([] : va_W))) := by
  refine MM.of (by decide) (Nat.le_of_ble_eq_true rfl) ?_
  intro p e s m args below meth cd A C hini hA hK hZ hP hD ls hl
  generalize hQ : MQ below ((Qi_ G (fun (r : Int32) (_ : Unit) => r = bI (decide (x < 256))) (fun (_ : Unit) => ([] : va_W))) A) args s (⟨0, 0, 0, 0⟩ : Room).cells (⟨0, 0, 0, 0⟩ : Room).slots A = Q
  obtain ⟨hx, hb, hr, hts, hown, hlk, hml⟩ := C
  have hown : s.vm.findClass RJ23 = some m.cls := hown
  have hS : va_S A s.heap s.heap [] := va_S.rf
  have hl : lv_has ls 1 [(0, .int (nI x))] := hl
  refine lv_iload_n hx hb dJ23_canEncode_0 rfl (lv_at hl 0 rfl) ?_
  refine lv_sipush (v := nI 255) hx hb dJ23_canEncode_1 (by decide) ?_
  refine n_cmp_gt (tgt := 11) hx hb dJ23_canEncode_4 (by decide) (by first | omega | (simp; omega)) (by first | omega | (simp; omega)) (fun c4 => ?_) (fun c4 => ?_)
  · skip
    refine lv_iconst (v := nI 0) hx hb dJ23_canEncode_11 (by decide) ?_
    subst hQ
    exact ret_i hx hb hr hlk () (bI_0 (by first | omega | (simp; omega))) hP hD hS rfl dJ23_canEncode_12
  · skip
    refine lv_iconst (v := nI 1) hx hb dJ23_canEncode_7 (by decide) ?_
    refine lv_goto (tgt := 12) hx hb dJ23_canEncode_8 (by decide) ?_
    subst hQ
    exact ret_i hx hb hr hlk () (bI_1 (by first | omega | (simp; omega))) hP hD hS rfl dJ23_canEncode_12
