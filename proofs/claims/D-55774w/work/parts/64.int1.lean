set_option maxHeartbeats 4000000 in
set_option maxRecDepth 100000 in
theorem m_J18_valueOf (l : Launch) (G : GG) (k : Nat) (hk : k ≤ 127) (hIC : ICok G) : MM l G yJ18_valueOf cJ18_valueOf 1 (some (.object "java/lang/Integer")) ⟨0, 0, 0, 0⟩ [.int (nI k)] ([] : va_W) (Qr_ G (fun (r : Nat) (_ : Unit) => r = (icA G (k + 128))) (fun (r : Nat) (_ : Unit) => ([] : va_W))) := by
  refine MM.of (by decide) (Nat.le_of_ble_eq_true rfl) ?_
  intro p e s m args below meth cd A C hini hA hK hZ hP hD ls hl
  generalize hQ : MQ below ((Qr_ G (fun (r : Nat) (_ : Unit) => r = (icA G (k + 128))) (fun (r : Nat) (_ : Unit) => ([] : va_W))) A) args s (⟨0, 0, 0, 0⟩ : Room).cells (⟨0, 0, 0, 0⟩ : Room).slots A = Q
  obtain ⟨hx, hb, hr, hts, hown, hlk, hml⟩ := C
  have hown : s.vm.findClass RJ18 = some m.cls := hown
  have hS : va_S A s.heap s.heap [] := va_S.rf
  have hl : lv_has ls 1 [(0, .int (nI k))] := hl
  refine lv_iload_n hx hb dJ18_valueOf_0 rfl (lv_at hl 0 rfl) ?_
  refine lv_bipush (v := (-128)) hx hb dJ18_valueOf_1 (by decide) ?_
  refine lv_icmp_lt (tgt := 23) hx hb dJ18_valueOf_3 (by decide) (fun c3 => ?_) (fun c3 => ?_)
  · exact absurd c3 (by rw [Int32.lt_iff_toInt_lt, nI_toInt (by omega), show (-128 : Int32).toInt = -128 from by decide]; omega)
  refine lv_iload_n hx hb dJ18_valueOf_6 rfl (lv_at hl 0 rfl) ?_
  refine get_s (G := G) hx hb hZ.zHG hS hown (hts _ q547) dJ18_valueOf_7 ?_
  refine n_cmp_gt (tgt := 23) hx hb dJ18_valueOf_10 (by decide) (by omega) (by omega) (fun c10 => ?_) (fun c10 => ?_)
  · exact absurd c10 (by omega)
  obtain ⟨t9, ht9, hT9⟩ := hZ.it hIC
  refine get_s (G := G) hx hb ht9 hS hown (hts _ q549) dJ18_valueOf_13 ?_
  refine lv_iload_n hx hb dJ18_valueOf_16 rfl (lv_at hl 0 rfl) ?_
  refine lv_sipush (v := nI 128) hx hb dJ18_valueOf_17 (by decide) ?_
  refine n_iadd hx hb dJ18_valueOf_20 ?_
  refine vb_tq (v := .ref (icA G (k + 128))) hx hb hT9 hS (vp_in_nI (by omega) (by decide)) (by rw [nI_clamp (by omega)]) dJ18_valueOf_21 ?_
  subst hQ
  exact ret_r hx hb hr (Or.inl ⟨_, rfl⟩) hlk () rfl hP hD hS dJ18_valueOf_22
