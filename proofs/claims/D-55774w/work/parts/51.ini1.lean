abbrev OX1W (G : GG) (h : Nat) (f0 f1 f2 f3 f4 f5 f6 f7 f8 f9 f10 : Value) : va_W := [(h, .inr (0, [f0, f1, f2, f3, f4, f5, f6, f7, f8, f9, f10]))]
abbrev OX2W (G : GG) (h : Nat) (f0 f1 f2 f3 f4 f5 f6 f7 f8 f9 f10 f11 f12 f13 : Value) : va_W := [(h, .inr (1, [f0, f1, f2, f3, f4, f5, f6, f7, f8, f9, f10, f11, f12, f13]))]
abbrev OX3W (G : GG) (h : Nat) (f0 f1 : Value) : va_W := [(h, .inr (2, [f0, f1]))]
abbrev OX4W (G : GG) (h : Nat) (f0 f1 f2 f3 f4 f5 : Value) : va_W := [(h, .inr (3, [f0, f1, f2, f3, f4, f5]))]
abbrev OX5W (G : GG) (h : Nat) (f0 f1 f2 f3 f4 f5 f6 f7 f8 f9 f10 f11 f12 f13 f14 f15 f16 f17 f18 f19 f20 : Value) : va_W := [(h, .inr (4, [f0, f1, f2, f3, f4, f5, f6, f7, f8, f9, f10, f11, f12, f13, f14, f15, f16, f17, f18, f19, f20]))]
abbrev OX7W (G : GG) (h : Nat) (f0 : Value) : va_W := [(h, .inr (6, [f0]))]
abbrev OJ1W (G : GG) (h : Nat) (f0 f1 f2 : Value) : va_W := [(h, .inr (8, [f0, f1, f2]))]
abbrev OJ3W (G : GG) (h : Nat) (f0 f1 f2 f3 : Value) : va_W := [(h, .inr (9, [f0, f1, f2, f3]))]
abbrev OJ19W (G : GG) (h : Nat) (f0 f1 f2 f3 : Value) : va_W := [(h, .inr (10, [f0, f1, f2, f3]))]
def ad5 (a b c d e : Nat) : Nat → Nat := fun i => match i with | 0 => a | 1 => b | 2 => c | 3 => d | _ => e
def ad9 (a b c d e f g h i : Nat) : Nat → Nat := fun k => match k with | 0 => a | 1 => b | 2 => c | 3 => d | 4 => e | 5 => f | 6 => g | 7 => h | _ => i
abbrev zz0 : ZT := (0, 0, (fun _ => 97), (fun _ => 97), (fun _ => false), (fun _ => nI 0))
theorem gZ0 : ∀ j, j < 32 → (fun _ => nI 0 : Nat → Int32) j = gZ zz0 j := by decide +kernel
/-- a reader -/
abbrev RDW (G : GG) (h : Nat) (ad : Nat → Nat) (sb at_ mn : Nat) (lt nu sg : Nat → Nat) : va_W := [(h, .inr (3, [.ref sb, .int (nI at_), .int (nI mn), .ref (ad 0), .ref (ad 1), .ref (ad 2)])), (ad 0, .inl (G.2.1 2, 60, .inl (nA lt))), (ad 1, .inl (G.2.1 3, 120, .inl (nA nu))), (ad 2, .inl (G.2.1 2, 60, .inl (nA sg)))]
set_option maxHeartbeats 4000000 in
set_option maxRecDepth 100000 in
theorem m_X2_init (l : Launch) (G : GG) (ph : Nat)  : MM l G yX2_init cX2_init 1 none ⟨1, 5, 1594, 23⟩ [.ref ph] (OX2W G ph (.int (nI 0)) (.int (nI 0)) .null .null .null (.int (nI 0)) (.int (nI 0)) (.int (nI 0)) (.int (nI 0)) (.int (nI 0)) (.int (nI 0)) .null .null (.int (nI 0))) (Qv_ G (fun (u : (Nat → Nat)) => True) (fun (u : (Nat → Nat)) => (PW G ph u 3 3 b9 b9 (fun _ => false) (fun _ => nI 0) (fun _ => 0) (fun _ => 0) 0))) := by
  refine MM.of (by decide) (Nat.le_of_ble_eq_true rfl) ?_
  intro p e s m args below meth cd A C hini hA hK hZ hP hD ls hl
  generalize hQ : MQ below ((Qv_ G (fun (u : (Nat → Nat)) => True) (fun (u : (Nat → Nat)) => (PW G ph u 3 3 b9 b9 (fun _ => false) (fun _ => nI 0) (fun _ => 0) (fun _ => 0) 0))) A) args s (⟨1, 5, 1594, 23⟩ : Room).cells (⟨1, 5, 1594, 23⟩ : Room).slots A = Q
  obtain ⟨hx, hb, hr, hts, hown, hlk, hml⟩ := C
  have hown : s.vm.findClass RX2 = some m.cls := hown
  have hS : va_S A s.heap s.heap [] := va_S.rf
  have hl : lv_has ls 1 [(0, .ref ph)] := hl
  refine lv_aload_n hx hb dX2_init_0 rfl (lv_at hl 0 rfl) ?_
  refine W.objInit hx hb hown (hts _ q136) (hts _ q129) (hts _ q130) rfl (by rw [hml]; exact hl.1) rfl dX2_init_1 (Nat.le_of_ble_eq_true rfl) (Nat.le_of_ble_eq_true rfl) ?_
  refine W.eq (g2 := F0 m 4 ls []) rfl ?_
  refine lv_aload_n hx hb dX2_init_4 rfl (lv_at hl 0 rfl) ?_
  refine lv_bipush (v := nI 9) hx hb dX2_init_5 (by decide) ?_
  refine nw_char hx hb (hts _ q195) hK hP hD hS hA 2 rfl (n := 9) (by decide) (Nat.le_of_ble_eq_true rfl) (Nat.le_of_ble_eq_true rfl) dX2_init_7 (fun q1 H hP hD hS => ?_)
  refine W.widen (k := 1) (n := 9) (Nat.le_refl _) (Nat.le_refl _) ?_
  have hP : va_P G.1 CL (OX2W G ph (.int (nI 0)) (.int (nI 0)) .null .null .null (.int (nI 0)) (.int (nI 0)) (.int (nI 0)) (.int (nI 0)) (.int (nI 0)) (.int (nI 0)) .null .null (.int (nI 0)) ++ CAW G q1 9 (fun _ => 0)) _ := hP
  have hD : va_D A (OX2W G ph (.int (nI 0)) (.int (nI 0)) .null .null .null (.int (nI 0)) (.int (nI 0)) (.int (nI 0)) (.int (nI 0)) (.int (nI 0)) (.int (nI 0)) .null .null (.int (nI 0)) ++ CAW G q1 9 (fun _ => 0)) := hD
  refine va_put (D := G.1) (ci := 1) (v := (.ref q1)) (C := RX2) (T := TX2) (N := 14) hx hb hts in_X2 tyX2 tyX2_ok nmX2 hown hK hP hD hS 0 rfl rfl 2 (by decide) (hts _ q145) (fun _ h9 => h9) rfl (tyX2_ok 2 (by decide)) rfl rfl (Nat.le_of_ble_eq_true rfl) dX2_init_9 (fun H locs hP hD hS => ?_)
  have hP : va_P G.1 CL (OX2W G ph (.int (nI 0)) (.int (nI 0)) (.ref q1) .null .null (.int (nI 0)) (.int (nI 0)) (.int (nI 0)) (.int (nI 0)) (.int (nI 0)) (.int (nI 0)) .null .null (.int (nI 0)) ++ CAW G q1 9 (fun _ => 0)) _ := hP
  have hD : va_D A (OX2W G ph (.int (nI 0)) (.int (nI 0)) (.ref q1) .null .null (.int (nI 0)) (.int (nI 0)) (.int (nI 0)) (.int (nI 0)) (.int (nI 0)) (.int (nI 0)) .null .null (.int (nI 0)) ++ CAW G q1 9 (fun _ => 0)) := hD
  refine lv_aload_n hx hb dX2_init_12 rfl (lv_at hl 0 rfl) ?_
  refine lv_bipush (v := nI 9) hx hb dX2_init_13 (by decide) ?_
  refine nw_char hx hb (hts _ q195) hK hP hD hS hA 2 rfl (n := 9) (by decide) (Nat.le_of_ble_eq_true rfl) (Nat.le_of_ble_eq_true rfl) dX2_init_15 (fun q2 H hP hD hS => ?_)
  refine W.widen (k := 2) (n := 18) (Nat.le_refl _) (Nat.le_refl _) ?_
  have hP : va_P G.1 CL (OX2W G ph (.int (nI 0)) (.int (nI 0)) (.ref q1) .null .null (.int (nI 0)) (.int (nI 0)) (.int (nI 0)) (.int (nI 0)) (.int (nI 0)) (.int (nI 0)) .null .null (.int (nI 0)) ++ CAW G q1 9 (fun _ => 0) ++ CAW G q2 9 (fun _ => 0)) _ := hP
  have hD : va_D A (OX2W G ph (.int (nI 0)) (.int (nI 0)) (.ref q1) .null .null (.int (nI 0)) (.int (nI 0)) (.int (nI 0)) (.int (nI 0)) (.int (nI 0)) (.int (nI 0)) .null .null (.int (nI 0)) ++ CAW G q1 9 (fun _ => 0) ++ CAW G q2 9 (fun _ => 0)) := hD
  refine va_put (D := G.1) (ci := 1) (v := (.ref q2)) (C := RX2) (T := TX2) (N := 14) hx hb hts in_X2 tyX2 tyX2_ok nmX2 hown hK hP hD hS 0 rfl rfl 3 (by decide) (hts _ q147) (fun _ h9 => h9) rfl (tyX2_ok 3 (by decide)) rfl rfl (Nat.le_of_ble_eq_true rfl) dX2_init_17 (fun H locs hP hD hS => ?_)
  have hP : va_P G.1 CL (OX2W G ph (.int (nI 0)) (.int (nI 0)) (.ref q1) (.ref q2) .null (.int (nI 0)) (.int (nI 0)) (.int (nI 0)) (.int (nI 0)) (.int (nI 0)) (.int (nI 0)) .null .null (.int (nI 0)) ++ CAW G q1 9 (fun _ => 0) ++ CAW G q2 9 (fun _ => 0)) _ := hP
  have hD : va_D A (OX2W G ph (.int (nI 0)) (.int (nI 0)) (.ref q1) (.ref q2) .null (.int (nI 0)) (.int (nI 0)) (.int (nI 0)) (.int (nI 0)) (.int (nI 0)) (.int (nI 0)) .null .null (.int (nI 0)) ++ CAW G q1 9 (fun _ => 0) ++ CAW G q2 9 (fun _ => 0)) := hD
  refine lv_aload_n hx hb dX2_init_20 rfl (lv_at hl 0 rfl) ?_
  refine lv_bipush (v := nI 6) hx hb dX2_init_21 (by decide) ?_
  refine nw_bool hx hb (hts _ q196) hK hP hD hS hA 0 rfl (n := 6) (by decide) (Nat.le_of_ble_eq_true rfl) (Nat.le_of_ble_eq_true rfl) dX2_init_23 (fun q3 H hP hD hS => ?_)
  refine W.widen (k := 3) (n := 24) (Nat.le_refl _) (Nat.le_refl _) ?_
  have hP : va_P G.1 CL (OX2W G ph (.int (nI 0)) (.int (nI 0)) (.ref q1) (.ref q2) .null (.int (nI 0)) (.int (nI 0)) (.int (nI 0)) (.int (nI 0)) (.int (nI 0)) (.int (nI 0)) .null .null (.int (nI 0)) ++ CAW G q1 9 (fun _ => 0) ++ CAW G q2 9 (fun _ => 0) ++ ZAW G q3 6 (fun _ => false)) _ := hP
  have hD : va_D A (OX2W G ph (.int (nI 0)) (.int (nI 0)) (.ref q1) (.ref q2) .null (.int (nI 0)) (.int (nI 0)) (.int (nI 0)) (.int (nI 0)) (.int (nI 0)) (.int (nI 0)) .null .null (.int (nI 0)) ++ CAW G q1 9 (fun _ => 0) ++ CAW G q2 9 (fun _ => 0) ++ ZAW G q3 6 (fun _ => false)) := hD
  refine va_put (D := G.1) (ci := 1) (v := (.ref q3)) (C := RX2) (T := TX2) (N := 14) hx hb hts in_X2 tyX2 tyX2_ok nmX2 hown hK hP hD hS 0 rfl rfl 4 (by decide) (hts _ q149) (fun _ h9 => h9) rfl (tyX2_ok 4 (by decide)) rfl rfl (Nat.le_of_ble_eq_true rfl) dX2_init_25 (fun H locs hP hD hS => ?_)
  have hP : va_P G.1 CL (OX2W G ph (.int (nI 0)) (.int (nI 0)) (.ref q1) (.ref q2) (.ref q3) (.int (nI 0)) (.int (nI 0)) (.int (nI 0)) (.int (nI 0)) (.int (nI 0)) (.int (nI 0)) .null .null (.int (nI 0)) ++ CAW G q1 9 (fun _ => 0) ++ CAW G q2 9 (fun _ => 0) ++ ZAW G q3 6 (fun _ => false)) _ := hP
  have hD : va_D A (OX2W G ph (.int (nI 0)) (.int (nI 0)) (.ref q1) (.ref q2) (.ref q3) (.int (nI 0)) (.int (nI 0)) (.int (nI 0)) (.int (nI 0)) (.int (nI 0)) (.int (nI 0)) .null .null (.int (nI 0)) ++ CAW G q1 9 (fun _ => 0) ++ CAW G q2 9 (fun _ => 0) ++ ZAW G q3 6 (fun _ => false)) := hD
  refine lv_aload_n hx hb dX2_init_28 rfl (lv_at hl 0 rfl) ?_
  refine lv_sipush (v := nI 1413) hx hb dX2_init_29 (by decide) ?_
  refine nw_char hx hb (hts _ q195) hK hP hD hS hA 2 rfl (n := 1413) (by decide) (Nat.le_of_ble_eq_true rfl) (Nat.le_of_ble_eq_true rfl) dX2_init_32 (fun q4 H hP hD hS => ?_)
  refine W.widen (k := 4) (n := 1437) (Nat.le_refl _) (Nat.le_refl _) ?_
  have hP : va_P G.1 CL (OX2W G ph (.int (nI 0)) (.int (nI 0)) (.ref q1) (.ref q2) (.ref q3) (.int (nI 0)) (.int (nI 0)) (.int (nI 0)) (.int (nI 0)) (.int (nI 0)) (.int (nI 0)) .null .null (.int (nI 0)) ++ CAW G q1 9 (fun _ => 0) ++ CAW G q2 9 (fun _ => 0) ++ ZAW G q3 6 (fun _ => false) ++ CAW G q4 1413 (fun _ => 0)) _ := hP
  have hD : va_D A (OX2W G ph (.int (nI 0)) (.int (nI 0)) (.ref q1) (.ref q2) (.ref q3) (.int (nI 0)) (.int (nI 0)) (.int (nI 0)) (.int (nI 0)) (.int (nI 0)) (.int (nI 0)) .null .null (.int (nI 0)) ++ CAW G q1 9 (fun _ => 0) ++ CAW G q2 9 (fun _ => 0) ++ ZAW G q3 6 (fun _ => false) ++ CAW G q4 1413 (fun _ => 0)) := hD
  refine va_putF (D := G.1) (ci := 1) (v := (.ref q4)) (C := RX2) (T := TX2) (N := 14) hx hb hts in_X2 tyX2 tyX2_ok nmX2 hown hK hP hD hS 0 rfl rfl 11 (by decide) (hts _ q163) (fun _ h9 => h9) rfl (hini rfl) rfl (tyX2_ok 11 (by decide)) rfl rfl (Nat.le_of_ble_eq_true rfl) dX2_init_34 (fun H locs hP hD hS => ?_)
  have hP : va_P G.1 CL (OX2W G ph (.int (nI 0)) (.int (nI 0)) (.ref q1) (.ref q2) (.ref q3) (.int (nI 0)) (.int (nI 0)) (.int (nI 0)) (.int (nI 0)) (.int (nI 0)) (.int (nI 0)) (.ref q4) .null (.int (nI 0)) ++ CAW G q1 9 (fun _ => 0) ++ CAW G q2 9 (fun _ => 0) ++ ZAW G q3 6 (fun _ => false) ++ CAW G q4 1413 (fun _ => 0)) _ := hP
  have hD : va_D A (OX2W G ph (.int (nI 0)) (.int (nI 0)) (.ref q1) (.ref q2) (.ref q3) (.int (nI 0)) (.int (nI 0)) (.int (nI 0)) (.int (nI 0)) (.int (nI 0)) (.int (nI 0)) (.ref q4) .null (.int (nI 0)) ++ CAW G q1 9 (fun _ => 0) ++ CAW G q2 9 (fun _ => 0) ++ ZAW G q3 6 (fun _ => false) ++ CAW G q4 1413 (fun _ => 0)) := hD
  refine lv_aload_n hx hb dX2_init_37 rfl (lv_at hl 0 rfl) ?_
  refine lv_sipush (v := nI 157) hx hb dX2_init_38 (by decide) ?_
  refine nw_int hx hb (hts _ q197) hK hP hD hS hA 3 rfl (n := 157) (by decide) (Nat.le_of_ble_eq_true rfl) (Nat.le_of_ble_eq_true rfl) dX2_init_41 (fun q5 H hP hD hS => ?_)
  refine W.widen (k := 5) (n := 1594) (Nat.le_refl _) (Nat.le_refl _) ?_
  have hP : va_P G.1 CL (OX2W G ph (.int (nI 0)) (.int (nI 0)) (.ref q1) (.ref q2) (.ref q3) (.int (nI 0)) (.int (nI 0)) (.int (nI 0)) (.int (nI 0)) (.int (nI 0)) (.int (nI 0)) (.ref q4) .null (.int (nI 0)) ++ CAW G q1 9 (fun _ => 0) ++ CAW G q2 9 (fun _ => 0) ++ ZAW G q3 6 (fun _ => false) ++ CAW G q4 1413 (fun _ => 0) ++ IAW G q5 157 (fun _ => 0)) _ := hP
  have hD : va_D A (OX2W G ph (.int (nI 0)) (.int (nI 0)) (.ref q1) (.ref q2) (.ref q3) (.int (nI 0)) (.int (nI 0)) (.int (nI 0)) (.int (nI 0)) (.int (nI 0)) (.int (nI 0)) (.ref q4) .null (.int (nI 0)) ++ CAW G q1 9 (fun _ => 0) ++ CAW G q2 9 (fun _ => 0) ++ ZAW G q3 6 (fun _ => false) ++ CAW G q4 1413 (fun _ => 0) ++ IAW G q5 157 (fun _ => 0)) := hD
  refine va_putF (D := G.1) (ci := 1) (v := (.ref q5)) (C := RX2) (T := TX2) (N := 14) hx hb hts in_X2 tyX2 tyX2_ok nmX2 hown hK hP hD hS 0 rfl rfl 12 (by decide) (hts _ q164) (fun _ h9 => h9) rfl (hini rfl) rfl (tyX2_ok 12 (by decide)) rfl rfl (Nat.le_of_ble_eq_true rfl) dX2_init_43 (fun H locs hP hD hS => ?_)
  have hP : va_P G.1 CL (OX2W G ph (.int (nI 0)) (.int (nI 0)) (.ref q1) (.ref q2) (.ref q3) (.int (nI 0)) (.int (nI 0)) (.int (nI 0)) (.int (nI 0)) (.int (nI 0)) (.int (nI 0)) (.ref q4) (.ref q5) (.int (nI 0)) ++ CAW G q1 9 (fun _ => 0) ++ CAW G q2 9 (fun _ => 0) ++ ZAW G q3 6 (fun _ => false) ++ CAW G q4 1413 (fun _ => 0) ++ IAW G q5 157 (fun _ => 0)) _ := hP
  have hD : va_D A (OX2W G ph (.int (nI 0)) (.int (nI 0)) (.ref q1) (.ref q2) (.ref q3) (.int (nI 0)) (.int (nI 0)) (.int (nI 0)) (.int (nI 0)) (.int (nI 0)) (.int (nI 0)) (.ref q4) (.ref q5) (.int (nI 0)) ++ CAW G q1 9 (fun _ => 0) ++ CAW G q2 9 (fun _ => 0) ++ ZAW G q3 6 (fun _ => false) ++ CAW G q4 1413 (fun _ => 0) ++ IAW G q5 157 (fun _ => 0)) := hD
  have hP : va_P G.1 CL (PW G ph (ad5 q1 q2 q3 q4 q5) 0 0 (fun _ => 0) (fun _ => 0) (fun _ => false) (fun _ => nI 0) (fun _ => 0) (fun _ => 0) 0) _ := hP
  have hD : va_D A (PW G ph (ad5 q1 q2 q3 q4 q5) 0 0 (fun _ => 0) (fun _ => 0) (fun _ => false) (fun _ => nI 0) (fun _ => 0) (fun _ => 0) 0) := hD
  refine lv_aload_n hx hb dX2_init_46 rfl (lv_at hl 0 rfl) ?_
  refine lv_iconst (v := nI 3) hx hb dX2_init_47 (by decide) ?_
  refine lv_iconst (v := nI 3) hx hb dX2_init_48 (by decide) ?_
  refine callVv (As := [.int (nI 3), .int (nI 3)]) (rest := []) (wc := (PW G ph (ad5 q1 q2 q3 q4 q5) 0 0 (fun _ => 0) (fun _ => 0) (fun _ => false) (fun _ => nI 0) (fun _ => 0) (fun _ => 0) 0)) (wr := ([] : va_W)) ⟨hx, hb, hml, hown, hts⟩ (m_X2_makes l G ph (ad5 q1 q2 q3 q4 q5) 0 0 (fun _ => 0) (fun _ => 0) (fun _ => false) (fun _ => nI 0) (fun _ => 0) (fun _ => 0) 0 3 3 ) (cwV 2 hts (lw_V q137 q138 q139 q89 q140) rfl rfl rfl (by decide +kernel) ⟨Nat.le_of_ble_eq_true rfl, Nat.le_of_ble_eq_true rfl⟩) hK hZ hA hP hD hS [0, 1, 2, 3, 4, 5] [] rfl rfl (by decide) (by decide) (by decide) 0 1 rfl rfl rfl hl.1 (Nat.le_of_ble_eq_true rfl) ⟨Nat.le_of_ble_eq_true rfl, Nat.le_of_ble_eq_true rfl⟩ rfl dX2_init_49 (fun u9 H locs hw9 hP hD hS => ?_)
  have hP : va_P G.1 CL (PW G ph (ad5 q1 q2 q3 q4 q5) 3 3 b9 b9 (fun _ => false) (fun _ => nI 0) (fun _ => 0) (fun _ => 0) 0) _ := hP
  have hD : va_D A (PW G ph (ad5 q1 q2 q3 q4 q5) 3 3 b9 b9 (fun _ => false) (fun _ => nI 0) (fun _ => 0) (fun _ => 0) 0) := hD
  subst hQ
  exact ret_v hx hb hr hlk (ad5 q1 q2 q3 q4 q5) trivial hP hD hS dX2_init_52
set_option maxHeartbeats 4000000 in
set_option maxRecDepth 100000 in
theorem m_X4_init (l : Launch) (G : GG) (rh : Nat) (sb : Nat)  : MM l G yX4_init cX4_init 2 none ⟨1, 3, 240, 12⟩ [.ref rh, .ref sb] (OX4W G rh .null (.int (nI 0)) (.int (nI 0)) .null .null .null) (Qv_ G (fun (u : (Nat → Nat)) => True) (fun (u : (Nat → Nat)) => (RDW G rh u sb 0 0 (fun _ => 0) (fun _ => 0) (fun _ => 0)))) := by
  refine MM.of (by decide) (Nat.le_of_ble_eq_true rfl) ?_
  intro p e s m args below meth cd A C hini hA hK hZ hP hD ls hl
  generalize hQ : MQ below ((Qv_ G (fun (u : (Nat → Nat)) => True) (fun (u : (Nat → Nat)) => (RDW G rh u sb 0 0 (fun _ => 0) (fun _ => 0) (fun _ => 0)))) A) args s (⟨1, 3, 240, 12⟩ : Room).cells (⟨1, 3, 240, 12⟩ : Room).slots A = Q
  obtain ⟨hx, hb, hr, hts, hown, hlk, hml⟩ := C
  have hown : s.vm.findClass RX4 = some m.cls := hown
  have hS : va_S A s.heap s.heap [] := va_S.rf
  have hl : lv_has ls 2 [(0, .ref rh), (1, .ref sb)] := hl
  refine lv_aload_n hx hb dX4_init_0 rfl (lv_at hl 0 rfl) ?_
  refine W.objInit hx hb hown (hts _ q272) (hts _ q129) (hts _ q130) rfl (by rw [hml]; exact hl.1) rfl dX4_init_1 (Nat.le_of_ble_eq_true rfl) (Nat.le_of_ble_eq_true rfl) ?_
  refine W.eq (g2 := F0 m 4 ls []) rfl ?_
  refine lv_aload_n hx hb dX4_init_4 rfl (lv_at hl 0 rfl) ?_
  refine lv_bipush (v := nI 60) hx hb dX4_init_5 (by decide) ?_
  refine nw_char hx hb (hts _ q195) hK hP hD hS hA 2 rfl (n := 60) (by decide) (Nat.le_of_ble_eq_true rfl) (Nat.le_of_ble_eq_true rfl) dX4_init_7 (fun q1 H hP hD hS => ?_)
  refine W.widen (k := 1) (n := 60) (Nat.le_refl _) (Nat.le_refl _) ?_
  have hP : va_P G.1 CL (OX4W G rh .null (.int (nI 0)) (.int (nI 0)) .null .null .null ++ CAW G q1 60 (fun _ => 0)) _ := hP
  have hD : va_D A (OX4W G rh .null (.int (nI 0)) (.int (nI 0)) .null .null .null ++ CAW G q1 60 (fun _ => 0)) := hD
  refine va_putF (D := G.1) (ci := 3) (v := (.ref q1)) (C := RX4) (T := TX4) (N := 6) hx hb hts in_X4 tyX4 tyX4_ok nmX4 hown hK hP hD hS 0 rfl rfl 3 (by decide) (hts _ q277) (fun _ h9 => h9) rfl (hini rfl) rfl (tyX4_ok 3 (by decide)) rfl rfl (Nat.le_of_ble_eq_true rfl) dX4_init_9 (fun H locs hP hD hS => ?_)
  have hP : va_P G.1 CL (OX4W G rh .null (.int (nI 0)) (.int (nI 0)) (.ref q1) .null .null ++ CAW G q1 60 (fun _ => 0)) _ := hP
  have hD : va_D A (OX4W G rh .null (.int (nI 0)) (.int (nI 0)) (.ref q1) .null .null ++ CAW G q1 60 (fun _ => 0)) := hD
  refine lv_aload_n hx hb dX4_init_12 rfl (lv_at hl 0 rfl) ?_
  refine lv_bipush (v := nI 120) hx hb dX4_init_13 (by decide) ?_
  refine nw_int hx hb (hts _ q197) hK hP hD hS hA 3 rfl (n := 120) (by decide) (Nat.le_of_ble_eq_true rfl) (Nat.le_of_ble_eq_true rfl) dX4_init_15 (fun q2 H hP hD hS => ?_)
  refine W.widen (k := 2) (n := 180) (Nat.le_refl _) (Nat.le_refl _) ?_
  have hP : va_P G.1 CL (OX4W G rh .null (.int (nI 0)) (.int (nI 0)) (.ref q1) .null .null ++ CAW G q1 60 (fun _ => 0) ++ IAW G q2 120 (fun _ => 0)) _ := hP
  have hD : va_D A (OX4W G rh .null (.int (nI 0)) (.int (nI 0)) (.ref q1) .null .null ++ CAW G q1 60 (fun _ => 0) ++ IAW G q2 120 (fun _ => 0)) := hD
  refine va_putF (D := G.1) (ci := 3) (v := (.ref q2)) (C := RX4) (T := TX4) (N := 6) hx hb hts in_X4 tyX4 tyX4_ok nmX4 hown hK hP hD hS 0 rfl rfl 4 (by decide) (hts _ q278) (fun _ h9 => h9) rfl (hini rfl) rfl (tyX4_ok 4 (by decide)) rfl rfl (Nat.le_of_ble_eq_true rfl) dX4_init_17 (fun H locs hP hD hS => ?_)
  have hP : va_P G.1 CL (OX4W G rh .null (.int (nI 0)) (.int (nI 0)) (.ref q1) (.ref q2) .null ++ CAW G q1 60 (fun _ => 0) ++ IAW G q2 120 (fun _ => 0)) _ := hP
  have hD : va_D A (OX4W G rh .null (.int (nI 0)) (.int (nI 0)) (.ref q1) (.ref q2) .null ++ CAW G q1 60 (fun _ => 0) ++ IAW G q2 120 (fun _ => 0)) := hD
  refine lv_aload_n hx hb dX4_init_20 rfl (lv_at hl 0 rfl) ?_
  refine lv_bipush (v := nI 60) hx hb dX4_init_21 (by decide) ?_
  refine nw_char hx hb (hts _ q195) hK hP hD hS hA 2 rfl (n := 60) (by decide) (Nat.le_of_ble_eq_true rfl) (Nat.le_of_ble_eq_true rfl) dX4_init_23 (fun q3 H hP hD hS => ?_)
  refine W.widen (k := 3) (n := 240) (Nat.le_refl _) (Nat.le_refl _) ?_
  have hP : va_P G.1 CL (OX4W G rh .null (.int (nI 0)) (.int (nI 0)) (.ref q1) (.ref q2) .null ++ CAW G q1 60 (fun _ => 0) ++ IAW G q2 120 (fun _ => 0) ++ CAW G q3 60 (fun _ => 0)) _ := hP
  have hD : va_D A (OX4W G rh .null (.int (nI 0)) (.int (nI 0)) (.ref q1) (.ref q2) .null ++ CAW G q1 60 (fun _ => 0) ++ IAW G q2 120 (fun _ => 0) ++ CAW G q3 60 (fun _ => 0)) := hD
  refine va_putF (D := G.1) (ci := 3) (v := (.ref q3)) (C := RX4) (T := TX4) (N := 6) hx hb hts in_X4 tyX4 tyX4_ok nmX4 hown hK hP hD hS 0 rfl rfl 5 (by decide) (hts _ q279) (fun _ h9 => h9) rfl (hini rfl) rfl (tyX4_ok 5 (by decide)) rfl rfl (Nat.le_of_ble_eq_true rfl) dX4_init_25 (fun H locs hP hD hS => ?_)
  have hP : va_P G.1 CL (OX4W G rh .null (.int (nI 0)) (.int (nI 0)) (.ref q1) (.ref q2) (.ref q3) ++ CAW G q1 60 (fun _ => 0) ++ IAW G q2 120 (fun _ => 0) ++ CAW G q3 60 (fun _ => 0)) _ := hP
  have hD : va_D A (OX4W G rh .null (.int (nI 0)) (.int (nI 0)) (.ref q1) (.ref q2) (.ref q3) ++ CAW G q1 60 (fun _ => 0) ++ IAW G q2 120 (fun _ => 0) ++ CAW G q3 60 (fun _ => 0)) := hD
  refine lv_aload_n hx hb dX4_init_28 rfl (lv_at hl 0 rfl) ?_
  refine lv_aload_n hx hb dX4_init_29 rfl (lv_at hl 1 rfl) ?_
  refine va_putF (D := G.1) (ci := 3) (v := (.ref sb)) (C := RX4) (T := TX4) (N := 6) hx hb hts in_X4 tyX4 tyX4_ok nmX4 hown hK hP hD hS 0 rfl rfl 0 (by decide) (hts _ q273) (fun _ h9 => h9) rfl (hini rfl) rfl (tyX4_ok 0 (by decide)) rfl rfl (Nat.le_of_ble_eq_true rfl) dX4_init_30 (fun H locs hP hD hS => ?_)
  have hP : va_P G.1 CL (OX4W G rh (.ref sb) (.int (nI 0)) (.int (nI 0)) (.ref q1) (.ref q2) (.ref q3) ++ CAW G q1 60 (fun _ => 0) ++ IAW G q2 120 (fun _ => 0) ++ CAW G q3 60 (fun _ => 0)) _ := hP
  have hD : va_D A (OX4W G rh (.ref sb) (.int (nI 0)) (.int (nI 0)) (.ref q1) (.ref q2) (.ref q3) ++ CAW G q1 60 (fun _ => 0) ++ IAW G q2 120 (fun _ => 0) ++ CAW G q3 60 (fun _ => 0)) := hD
  have hP : va_P G.1 CL (RDW G rh (ad5 q1 q2 q3 0 0) sb 0 0 (fun _ => 0) (fun _ => 0) (fun _ => 0)) _ := hP
  have hD : va_D A (RDW G rh (ad5 q1 q2 q3 0 0) sb 0 0 (fun _ => 0) (fun _ => 0) (fun _ => 0)) := hD
  subst hQ
  exact ret_v hx hb hr hlk (ad5 q1 q2 q3 0 0) trivial hP hD hS dX4_init_33
set_option maxHeartbeats 4000000 in
set_option maxRecDepth 100000 in
theorem m_X5_init (l : Launch) (G : GG) (mh : Nat)  : MM l G yX5_init cX5_init 1 none ⟨1, 9, 630, 23⟩ [.ref mh] (OX5W G mh .null .null .null (.int (nI 0)) .null (.int (nI 0)) .null (.int (nI 0)) (.int (nI 0)) (.int (nI 0)) (.int (nI 0)) (.int (nI 0)) .null (.int (nI 0)) (.int (nI 0)) .null .null (.int (nI 0)) (.int (nI 0)) (.int (nI 0)) .null) (Qv_ G (fun (u : (Nat → Nat)) => True) (fun (u : (Nat → Nat)) => (MW G mh u 3 3 (bdL (fun _ => 97) (3 * 3)) (bdL (fun _ => 97) (3 * 3)) (fun _ => false) (fun _ => nI 0) (fun _ => nI 0) (fun _ => nI 0) (fun _ => nI 0) 0 false (fun _ => 0) 0 (-1) (nI 0) (nI 0) false (fun _ => 0) 0 (nI 0) (fun _ => 0) (fun _ => 0) (nI 0) 0 false (fun _ => nI 0)))) := by
  refine MM.of (by decide) (Nat.le_of_ble_eq_true rfl) ?_
  intro p e s m args below meth cd A C hini hA hK hZ hP hD ls hl
  generalize hQ : MQ below ((Qv_ G (fun (u : (Nat → Nat)) => True) (fun (u : (Nat → Nat)) => (MW G mh u 3 3 (bdL (fun _ => 97) (3 * 3)) (bdL (fun _ => 97) (3 * 3)) (fun _ => false) (fun _ => nI 0) (fun _ => nI 0) (fun _ => nI 0) (fun _ => nI 0) 0 false (fun _ => 0) 0 (-1) (nI 0) (nI 0) false (fun _ => 0) 0 (nI 0) (fun _ => 0) (fun _ => 0) (nI 0) 0 false (fun _ => nI 0)))) A) args s (⟨1, 9, 630, 23⟩ : Room).cells (⟨1, 9, 630, 23⟩ : Room).slots A = Q
  obtain ⟨hx, hb, hr, hts, hown, hlk, hml⟩ := C
  have hown : s.vm.findClass RX5 = some m.cls := hown
  have hS : va_S A s.heap s.heap [] := va_S.rf
  have hl : lv_has ls 1 [(0, .ref mh)] := hl
  refine lv_aload_n hx hb dX5_init_0 rfl (lv_at hl 0 rfl) ?_
  refine W.objInit hx hb hown (hts _ q1722) (hts _ q129) (hts _ q130) rfl (by rw [hml]; exact hl.1) rfl dX5_init_1 (Nat.le_of_ble_eq_true rfl) (Nat.le_of_ble_eq_true rfl) ?_
  refine W.eq (g2 := F0 m 4 ls []) rfl ?_
  refine lv_aload_n hx hb dX5_init_4 rfl (lv_at hl 0 rfl) ?_
  refine lv_bipush (v := nI 32) hx hb dX5_init_5 (by decide) ?_
  refine nw_int hx hb (hts _ q197) hK hP hD hS hA 3 rfl (n := 32) (by decide) (Nat.le_of_ble_eq_true rfl) (Nat.le_of_ble_eq_true rfl) dX5_init_7 (fun q1 H hP hD hS => ?_)
  refine W.widen (k := 1) (n := 32) (Nat.le_refl _) (Nat.le_refl _) ?_
  have hP : va_P G.1 CL (OX5W G mh .null .null .null (.int (nI 0)) .null (.int (nI 0)) .null (.int (nI 0)) (.int (nI 0)) (.int (nI 0)) (.int (nI 0)) (.int (nI 0)) .null (.int (nI 0)) (.int (nI 0)) .null .null (.int (nI 0)) (.int (nI 0)) (.int (nI 0)) .null ++ IAW G q1 32 (fun _ => 0)) _ := hP
  have hD : va_D A (OX5W G mh .null .null .null (.int (nI 0)) .null (.int (nI 0)) .null (.int (nI 0)) (.int (nI 0)) (.int (nI 0)) (.int (nI 0)) (.int (nI 0)) .null (.int (nI 0)) (.int (nI 0)) .null .null (.int (nI 0)) (.int (nI 0)) (.int (nI 0)) .null ++ IAW G q1 32 (fun _ => 0)) := hD
  refine va_putF (D := G.1) (ci := 4) (v := (.ref q1)) (C := RX5) (T := TX5) (N := 21) hx hb hts in_X5 tyX5 tyX5_ok nmX5 hown hK hP hD hS 0 rfl rfl 0 (by decide) (hts _ q1727) (fun _ h9 => h9) rfl (hini rfl) rfl (tyX5_ok 0 (by decide)) rfl rfl (Nat.le_of_ble_eq_true rfl) dX5_init_9 (fun H locs hP hD hS => ?_)
  have hP : va_P G.1 CL (OX5W G mh (.ref q1) .null .null (.int (nI 0)) .null (.int (nI 0)) .null (.int (nI 0)) (.int (nI 0)) (.int (nI 0)) (.int (nI 0)) (.int (nI 0)) .null (.int (nI 0)) (.int (nI 0)) .null .null (.int (nI 0)) (.int (nI 0)) (.int (nI 0)) .null ++ IAW G q1 32 (fun _ => 0)) _ := hP
  have hD : va_D A (OX5W G mh (.ref q1) .null .null (.int (nI 0)) .null (.int (nI 0)) .null (.int (nI 0)) (.int (nI 0)) (.int (nI 0)) (.int (nI 0)) (.int (nI 0)) .null (.int (nI 0)) (.int (nI 0)) .null .null (.int (nI 0)) (.int (nI 0)) (.int (nI 0)) .null ++ IAW G q1 32 (fun _ => 0)) := hD
  refine lv_aload_n hx hb dX5_init_12 rfl (lv_at hl 0 rfl) ?_
  refine lv_bipush (v := nI 32) hx hb dX5_init_13 (by decide) ?_
  refine nw_int hx hb (hts _ q197) hK hP hD hS hA 3 rfl (n := 32) (by decide) (Nat.le_of_ble_eq_true rfl) (Nat.le_of_ble_eq_true rfl) dX5_init_15 (fun q2 H hP hD hS => ?_)
  refine W.widen (k := 2) (n := 64) (Nat.le_refl _) (Nat.le_refl _) ?_
  have hP : va_P G.1 CL (OX5W G mh (.ref q1) .null .null (.int (nI 0)) .null (.int (nI 0)) .null (.int (nI 0)) (.int (nI 0)) (.int (nI 0)) (.int (nI 0)) (.int (nI 0)) .null (.int (nI 0)) (.int (nI 0)) .null .null (.int (nI 0)) (.int (nI 0)) (.int (nI 0)) .null ++ IAW G q1 32 (fun _ => 0) ++ IAW G q2 32 (fun _ => 0)) _ := hP
  have hD : va_D A (OX5W G mh (.ref q1) .null .null (.int (nI 0)) .null (.int (nI 0)) .null (.int (nI 0)) (.int (nI 0)) (.int (nI 0)) (.int (nI 0)) (.int (nI 0)) .null (.int (nI 0)) (.int (nI 0)) .null .null (.int (nI 0)) (.int (nI 0)) (.int (nI 0)) .null ++ IAW G q1 32 (fun _ => 0) ++ IAW G q2 32 (fun _ => 0)) := hD
  refine va_putF (D := G.1) (ci := 4) (v := (.ref q2)) (C := RX5) (T := TX5) (N := 21) hx hb hts in_X5 tyX5 tyX5_ok nmX5 hown hK hP hD hS 0 rfl rfl 1 (by decide) (hts _ q1728) (fun _ h9 => h9) rfl (hini rfl) rfl (tyX5_ok 1 (by decide)) rfl rfl (Nat.le_of_ble_eq_true rfl) dX5_init_17 (fun H locs hP hD hS => ?_)
  have hP : va_P G.1 CL (OX5W G mh (.ref q1) (.ref q2) .null (.int (nI 0)) .null (.int (nI 0)) .null (.int (nI 0)) (.int (nI 0)) (.int (nI 0)) (.int (nI 0)) (.int (nI 0)) .null (.int (nI 0)) (.int (nI 0)) .null .null (.int (nI 0)) (.int (nI 0)) (.int (nI 0)) .null ++ IAW G q1 32 (fun _ => 0) ++ IAW G q2 32 (fun _ => 0)) _ := hP
  have hD : va_D A (OX5W G mh (.ref q1) (.ref q2) .null (.int (nI 0)) .null (.int (nI 0)) .null (.int (nI 0)) (.int (nI 0)) (.int (nI 0)) (.int (nI 0)) (.int (nI 0)) .null (.int (nI 0)) (.int (nI 0)) .null .null (.int (nI 0)) (.int (nI 0)) (.int (nI 0)) .null ++ IAW G q1 32 (fun _ => 0) ++ IAW G q2 32 (fun _ => 0)) := hD
  refine lv_aload_n hx hb dX5_init_20 rfl (lv_at hl 0 rfl) ?_
  refine lv_sipush (v := nI 256) hx hb dX5_init_21 (by decide) ?_
  refine nw_int hx hb (hts _ q197) hK hP hD hS hA 3 rfl (n := 256) (by decide) (Nat.le_of_ble_eq_true rfl) (Nat.le_of_ble_eq_true rfl) dX5_init_24 (fun q3 H hP hD hS => ?_)
  refine W.widen (k := 3) (n := 320) (Nat.le_refl _) (Nat.le_refl _) ?_
  have hP : va_P G.1 CL (OX5W G mh (.ref q1) (.ref q2) .null (.int (nI 0)) .null (.int (nI 0)) .null (.int (nI 0)) (.int (nI 0)) (.int (nI 0)) (.int (nI 0)) (.int (nI 0)) .null (.int (nI 0)) (.int (nI 0)) .null .null (.int (nI 0)) (.int (nI 0)) (.int (nI 0)) .null ++ IAW G q1 32 (fun _ => 0) ++ IAW G q2 32 (fun _ => 0) ++ IAW G q3 256 (fun _ => 0)) _ := hP
  have hD : va_D A (OX5W G mh (.ref q1) (.ref q2) .null (.int (nI 0)) .null (.int (nI 0)) .null (.int (nI 0)) (.int (nI 0)) (.int (nI 0)) (.int (nI 0)) (.int (nI 0)) .null (.int (nI 0)) (.int (nI 0)) .null .null (.int (nI 0)) (.int (nI 0)) (.int (nI 0)) .null ++ IAW G q1 32 (fun _ => 0) ++ IAW G q2 32 (fun _ => 0) ++ IAW G q3 256 (fun _ => 0)) := hD
  refine va_putF (D := G.1) (ci := 4) (v := (.ref q3)) (C := RX5) (T := TX5) (N := 21) hx hb hts in_X5 tyX5 tyX5_ok nmX5 hown hK hP hD hS 0 rfl rfl 2 (by decide) (hts _ q1729) (fun _ h9 => h9) rfl (hini rfl) rfl (tyX5_ok 2 (by decide)) rfl rfl (Nat.le_of_ble_eq_true rfl) dX5_init_26 (fun H locs hP hD hS => ?_)
  have hP : va_P G.1 CL (OX5W G mh (.ref q1) (.ref q2) (.ref q3) (.int (nI 0)) .null (.int (nI 0)) .null (.int (nI 0)) (.int (nI 0)) (.int (nI 0)) (.int (nI 0)) (.int (nI 0)) .null (.int (nI 0)) (.int (nI 0)) .null .null (.int (nI 0)) (.int (nI 0)) (.int (nI 0)) .null ++ IAW G q1 32 (fun _ => 0) ++ IAW G q2 32 (fun _ => 0) ++ IAW G q3 256 (fun _ => 0)) _ := hP
  have hD : va_D A (OX5W G mh (.ref q1) (.ref q2) (.ref q3) (.int (nI 0)) .null (.int (nI 0)) .null (.int (nI 0)) (.int (nI 0)) (.int (nI 0)) (.int (nI 0)) (.int (nI 0)) .null (.int (nI 0)) (.int (nI 0)) .null .null (.int (nI 0)) (.int (nI 0)) (.int (nI 0)) .null ++ IAW G q1 32 (fun _ => 0) ++ IAW G q2 32 (fun _ => 0) ++ IAW G q3 256 (fun _ => 0)) := hD
  refine lv_aload_n hx hb dX5_init_29 rfl (lv_at hl 0 rfl) ?_
  refine lv_bipush (v := nI 32) hx hb dX5_init_30 (by decide) ?_
  refine nw_int hx hb (hts _ q197) hK hP hD hS hA 3 rfl (n := 32) (by decide) (Nat.le_of_ble_eq_true rfl) (Nat.le_of_ble_eq_true rfl) dX5_init_32 (fun q4 H hP hD hS => ?_)
  refine W.widen (k := 4) (n := 352) (Nat.le_refl _) (Nat.le_refl _) ?_
  have hP : va_P G.1 CL (OX5W G mh (.ref q1) (.ref q2) (.ref q3) (.int (nI 0)) .null (.int (nI 0)) .null (.int (nI 0)) (.int (nI 0)) (.int (nI 0)) (.int (nI 0)) (.int (nI 0)) .null (.int (nI 0)) (.int (nI 0)) .null .null (.int (nI 0)) (.int (nI 0)) (.int (nI 0)) .null ++ IAW G q1 32 (fun _ => 0) ++ IAW G q2 32 (fun _ => 0) ++ IAW G q3 256 (fun _ => 0) ++ IAW G q4 32 (fun _ => 0)) _ := hP
  have hD : va_D A (OX5W G mh (.ref q1) (.ref q2) (.ref q3) (.int (nI 0)) .null (.int (nI 0)) .null (.int (nI 0)) (.int (nI 0)) (.int (nI 0)) (.int (nI 0)) (.int (nI 0)) .null (.int (nI 0)) (.int (nI 0)) .null .null (.int (nI 0)) (.int (nI 0)) (.int (nI 0)) .null ++ IAW G q1 32 (fun _ => 0) ++ IAW G q2 32 (fun _ => 0) ++ IAW G q3 256 (fun _ => 0) ++ IAW G q4 32 (fun _ => 0)) := hD
  refine va_putF (D := G.1) (ci := 4) (v := (.ref q4)) (C := RX5) (T := TX5) (N := 21) hx hb hts in_X5 tyX5 tyX5_ok nmX5 hown hK hP hD hS 0 rfl rfl 4 (by decide) (hts _ q1731) (fun _ h9 => h9) rfl (hini rfl) rfl (tyX5_ok 4 (by decide)) rfl rfl (Nat.le_of_ble_eq_true rfl) dX5_init_34 (fun H locs hP hD hS => ?_)
  have hP : va_P G.1 CL (OX5W G mh (.ref q1) (.ref q2) (.ref q3) (.int (nI 0)) (.ref q4) (.int (nI 0)) .null (.int (nI 0)) (.int (nI 0)) (.int (nI 0)) (.int (nI 0)) (.int (nI 0)) .null (.int (nI 0)) (.int (nI 0)) .null .null (.int (nI 0)) (.int (nI 0)) (.int (nI 0)) .null ++ IAW G q1 32 (fun _ => 0) ++ IAW G q2 32 (fun _ => 0) ++ IAW G q3 256 (fun _ => 0) ++ IAW G q4 32 (fun _ => 0)) _ := hP
  have hD : va_D A (OX5W G mh (.ref q1) (.ref q2) (.ref q3) (.int (nI 0)) (.ref q4) (.int (nI 0)) .null (.int (nI 0)) (.int (nI 0)) (.int (nI 0)) (.int (nI 0)) (.int (nI 0)) .null (.int (nI 0)) (.int (nI 0)) .null .null (.int (nI 0)) (.int (nI 0)) (.int (nI 0)) .null ++ IAW G q1 32 (fun _ => 0) ++ IAW G q2 32 (fun _ => 0) ++ IAW G q3 256 (fun _ => 0) ++ IAW G q4 32 (fun _ => 0)) := hD
  refine lv_aload_n hx hb dX5_init_37 rfl (lv_at hl 0 rfl) ?_
  refine lv_bipush (v := nI 60) hx hb dX5_init_38 (by decide) ?_
  refine nw_char hx hb (hts _ q195) hK hP hD hS hA 2 rfl (n := 60) (by decide) (Nat.le_of_ble_eq_true rfl) (Nat.le_of_ble_eq_true rfl) dX5_init_40 (fun q5 H hP hD hS => ?_)
  refine W.widen (k := 5) (n := 412) (Nat.le_refl _) (Nat.le_refl _) ?_
  have hP : va_P G.1 CL (OX5W G mh (.ref q1) (.ref q2) (.ref q3) (.int (nI 0)) (.ref q4) (.int (nI 0)) .null (.int (nI 0)) (.int (nI 0)) (.int (nI 0)) (.int (nI 0)) (.int (nI 0)) .null (.int (nI 0)) (.int (nI 0)) .null .null (.int (nI 0)) (.int (nI 0)) (.int (nI 0)) .null ++ IAW G q1 32 (fun _ => 0) ++ IAW G q2 32 (fun _ => 0) ++ IAW G q3 256 (fun _ => 0) ++ IAW G q4 32 (fun _ => 0) ++ CAW G q5 60 (fun _ => 0)) _ := hP
  have hD : va_D A (OX5W G mh (.ref q1) (.ref q2) (.ref q3) (.int (nI 0)) (.ref q4) (.int (nI 0)) .null (.int (nI 0)) (.int (nI 0)) (.int (nI 0)) (.int (nI 0)) (.int (nI 0)) .null (.int (nI 0)) (.int (nI 0)) .null .null (.int (nI 0)) (.int (nI 0)) (.int (nI 0)) .null ++ IAW G q1 32 (fun _ => 0) ++ IAW G q2 32 (fun _ => 0) ++ IAW G q3 256 (fun _ => 0) ++ IAW G q4 32 (fun _ => 0) ++ CAW G q5 60 (fun _ => 0)) := hD
  refine va_putF (D := G.1) (ci := 4) (v := (.ref q5)) (C := RX5) (T := TX5) (N := 21) hx hb hts in_X5 tyX5 tyX5_ok nmX5 hown hK hP hD hS 0 rfl rfl 6 (by decide) (hts _ q1733) (fun _ h9 => h9) rfl (hini rfl) rfl (tyX5_ok 6 (by decide)) rfl rfl (Nat.le_of_ble_eq_true rfl) dX5_init_42 (fun H locs hP hD hS => ?_)
  have hP : va_P G.1 CL (OX5W G mh (.ref q1) (.ref q2) (.ref q3) (.int (nI 0)) (.ref q4) (.int (nI 0)) (.ref q5) (.int (nI 0)) (.int (nI 0)) (.int (nI 0)) (.int (nI 0)) (.int (nI 0)) .null (.int (nI 0)) (.int (nI 0)) .null .null (.int (nI 0)) (.int (nI 0)) (.int (nI 0)) .null ++ IAW G q1 32 (fun _ => 0) ++ IAW G q2 32 (fun _ => 0) ++ IAW G q3 256 (fun _ => 0) ++ IAW G q4 32 (fun _ => 0) ++ CAW G q5 60 (fun _ => 0)) _ := hP
  have hD : va_D A (OX5W G mh (.ref q1) (.ref q2) (.ref q3) (.int (nI 0)) (.ref q4) (.int (nI 0)) (.ref q5) (.int (nI 0)) (.int (nI 0)) (.int (nI 0)) (.int (nI 0)) (.int (nI 0)) .null (.int (nI 0)) (.int (nI 0)) .null .null (.int (nI 0)) (.int (nI 0)) (.int (nI 0)) .null ++ IAW G q1 32 (fun _ => 0) ++ IAW G q2 32 (fun _ => 0) ++ IAW G q3 256 (fun _ => 0) ++ IAW G q4 32 (fun _ => 0) ++ CAW G q5 60 (fun _ => 0)) := hD
  refine lv_aload_n hx hb dX5_init_45 rfl (lv_at hl 0 rfl) ?_
  refine lv_iconst (v := (-1)) hx hb dX5_init_46 (by decide) ?_
  refine va_put (D := G.1) (ci := 4) (v := (.int (-1))) (C := RX5) (T := TX5) (N := 21) hx hb hts in_X5 tyX5 tyX5_ok nmX5 hown hK hP hD hS 0 rfl rfl 8 (by decide) (hts _ q1735) (fun _ h9 => h9) rfl (tyX5_ok 8 (by decide)) rfl rfl (Nat.le_of_ble_eq_true rfl) dX5_init_47 (fun H locs hP hD hS => ?_)
  have hP : va_P G.1 CL (OX5W G mh (.ref q1) (.ref q2) (.ref q3) (.int (nI 0)) (.ref q4) (.int (nI 0)) (.ref q5) (.int (nI 0)) (.int (-1)) (.int (nI 0)) (.int (nI 0)) (.int (nI 0)) .null (.int (nI 0)) (.int (nI 0)) .null .null (.int (nI 0)) (.int (nI 0)) (.int (nI 0)) .null ++ IAW G q1 32 (fun _ => 0) ++ IAW G q2 32 (fun _ => 0) ++ IAW G q3 256 (fun _ => 0) ++ IAW G q4 32 (fun _ => 0) ++ CAW G q5 60 (fun _ => 0)) _ := hP
  have hD : va_D A (OX5W G mh (.ref q1) (.ref q2) (.ref q3) (.int (nI 0)) (.ref q4) (.int (nI 0)) (.ref q5) (.int (nI 0)) (.int (-1)) (.int (nI 0)) (.int (nI 0)) (.int (nI 0)) .null (.int (nI 0)) (.int (nI 0)) .null .null (.int (nI 0)) (.int (nI 0)) (.int (nI 0)) .null ++ IAW G q1 32 (fun _ => 0) ++ IAW G q2 32 (fun _ => 0) ++ IAW G q3 256 (fun _ => 0) ++ IAW G q4 32 (fun _ => 0) ++ CAW G q5 60 (fun _ => 0)) := hD
  refine lv_aload_n hx hb dX5_init_50 rfl (lv_at hl 0 rfl) ?_
  refine lv_bipush (v := nI 20) hx hb dX5_init_51 (by decide) ?_
  refine nw_char hx hb (hts _ q195) hK hP hD hS hA 2 rfl (n := 20) (by decide) (Nat.le_of_ble_eq_true rfl) (Nat.le_of_ble_eq_true rfl) dX5_init_53 (fun q6 H hP hD hS => ?_)
  refine W.widen (k := 6) (n := 432) (Nat.le_refl _) (Nat.le_refl _) ?_
  have hP : va_P G.1 CL (OX5W G mh (.ref q1) (.ref q2) (.ref q3) (.int (nI 0)) (.ref q4) (.int (nI 0)) (.ref q5) (.int (nI 0)) (.int (-1)) (.int (nI 0)) (.int (nI 0)) (.int (nI 0)) .null (.int (nI 0)) (.int (nI 0)) .null .null (.int (nI 0)) (.int (nI 0)) (.int (nI 0)) .null ++ IAW G q1 32 (fun _ => 0) ++ IAW G q2 32 (fun _ => 0) ++ IAW G q3 256 (fun _ => 0) ++ IAW G q4 32 (fun _ => 0) ++ CAW G q5 60 (fun _ => 0) ++ CAW G q6 20 (fun _ => 0)) _ := hP
  have hD : va_D A (OX5W G mh (.ref q1) (.ref q2) (.ref q3) (.int (nI 0)) (.ref q4) (.int (nI 0)) (.ref q5) (.int (nI 0)) (.int (-1)) (.int (nI 0)) (.int (nI 0)) (.int (nI 0)) .null (.int (nI 0)) (.int (nI 0)) .null .null (.int (nI 0)) (.int (nI 0)) (.int (nI 0)) .null ++ IAW G q1 32 (fun _ => 0) ++ IAW G q2 32 (fun _ => 0) ++ IAW G q3 256 (fun _ => 0) ++ IAW G q4 32 (fun _ => 0) ++ CAW G q5 60 (fun _ => 0) ++ CAW G q6 20 (fun _ => 0)) := hD
  refine va_putF (D := G.1) (ci := 4) (v := (.ref q6)) (C := RX5) (T := TX5) (N := 21) hx hb hts in_X5 tyX5 tyX5_ok nmX5 hown hK hP hD hS 0 rfl rfl 12 (by decide) (hts _ q1739) (fun _ h9 => h9) rfl (hini rfl) rfl (tyX5_ok 12 (by decide)) rfl rfl (Nat.le_of_ble_eq_true rfl) dX5_init_55 (fun H locs hP hD hS => ?_)
  have hP : va_P G.1 CL (OX5W G mh (.ref q1) (.ref q2) (.ref q3) (.int (nI 0)) (.ref q4) (.int (nI 0)) (.ref q5) (.int (nI 0)) (.int (-1)) (.int (nI 0)) (.int (nI 0)) (.int (nI 0)) (.ref q6) (.int (nI 0)) (.int (nI 0)) .null .null (.int (nI 0)) (.int (nI 0)) (.int (nI 0)) .null ++ IAW G q1 32 (fun _ => 0) ++ IAW G q2 32 (fun _ => 0) ++ IAW G q3 256 (fun _ => 0) ++ IAW G q4 32 (fun _ => 0) ++ CAW G q5 60 (fun _ => 0) ++ CAW G q6 20 (fun _ => 0)) _ := hP
  have hD : va_D A (OX5W G mh (.ref q1) (.ref q2) (.ref q3) (.int (nI 0)) (.ref q4) (.int (nI 0)) (.ref q5) (.int (nI 0)) (.int (-1)) (.int (nI 0)) (.int (nI 0)) (.int (nI 0)) (.ref q6) (.int (nI 0)) (.int (nI 0)) .null .null (.int (nI 0)) (.int (nI 0)) (.int (nI 0)) .null ++ IAW G q1 32 (fun _ => 0) ++ IAW G q2 32 (fun _ => 0) ++ IAW G q3 256 (fun _ => 0) ++ IAW G q4 32 (fun _ => 0) ++ CAW G q5 60 (fun _ => 0) ++ CAW G q6 20 (fun _ => 0)) := hD
  refine lv_aload_n hx hb dX5_init_58 rfl (lv_at hl 0 rfl) ?_
  refine lv_bipush (v := nI 9) hx hb dX5_init_59 (by decide) ?_
  refine nw_int hx hb (hts _ q197) hK hP hD hS hA 3 rfl (n := 9) (by decide) (Nat.le_of_ble_eq_true rfl) (Nat.le_of_ble_eq_true rfl) dX5_init_61 (fun q7 H hP hD hS => ?_)
  refine W.widen (k := 7) (n := 441) (Nat.le_refl _) (Nat.le_refl _) ?_
  have hP : va_P G.1 CL (OX5W G mh (.ref q1) (.ref q2) (.ref q3) (.int (nI 0)) (.ref q4) (.int (nI 0)) (.ref q5) (.int (nI 0)) (.int (-1)) (.int (nI 0)) (.int (nI 0)) (.int (nI 0)) (.ref q6) (.int (nI 0)) (.int (nI 0)) .null .null (.int (nI 0)) (.int (nI 0)) (.int (nI 0)) .null ++ IAW G q1 32 (fun _ => 0) ++ IAW G q2 32 (fun _ => 0) ++ IAW G q3 256 (fun _ => 0) ++ IAW G q4 32 (fun _ => 0) ++ CAW G q5 60 (fun _ => 0) ++ CAW G q6 20 (fun _ => 0) ++ IAW G q7 9 (fun _ => 0)) _ := hP
  have hD : va_D A (OX5W G mh (.ref q1) (.ref q2) (.ref q3) (.int (nI 0)) (.ref q4) (.int (nI 0)) (.ref q5) (.int (nI 0)) (.int (-1)) (.int (nI 0)) (.int (nI 0)) (.int (nI 0)) (.ref q6) (.int (nI 0)) (.int (nI 0)) .null .null (.int (nI 0)) (.int (nI 0)) (.int (nI 0)) .null ++ IAW G q1 32 (fun _ => 0) ++ IAW G q2 32 (fun _ => 0) ++ IAW G q3 256 (fun _ => 0) ++ IAW G q4 32 (fun _ => 0) ++ CAW G q5 60 (fun _ => 0) ++ CAW G q6 20 (fun _ => 0) ++ IAW G q7 9 (fun _ => 0)) := hD
  refine va_putF (D := G.1) (ci := 4) (v := (.ref q7)) (C := RX5) (T := TX5) (N := 21) hx hb hts in_X5 tyX5 tyX5_ok nmX5 hown hK hP hD hS 0 rfl rfl 15 (by decide) (hts _ q1742) (fun _ h9 => h9) rfl (hini rfl) rfl (tyX5_ok 15 (by decide)) rfl rfl (Nat.le_of_ble_eq_true rfl) dX5_init_63 (fun H locs hP hD hS => ?_)
  have hP : va_P G.1 CL (OX5W G mh (.ref q1) (.ref q2) (.ref q3) (.int (nI 0)) (.ref q4) (.int (nI 0)) (.ref q5) (.int (nI 0)) (.int (-1)) (.int (nI 0)) (.int (nI 0)) (.int (nI 0)) (.ref q6) (.int (nI 0)) (.int (nI 0)) (.ref q7) .null (.int (nI 0)) (.int (nI 0)) (.int (nI 0)) .null ++ IAW G q1 32 (fun _ => 0) ++ IAW G q2 32 (fun _ => 0) ++ IAW G q3 256 (fun _ => 0) ++ IAW G q4 32 (fun _ => 0) ++ CAW G q5 60 (fun _ => 0) ++ CAW G q6 20 (fun _ => 0) ++ IAW G q7 9 (fun _ => 0)) _ := hP
  have hD : va_D A (OX5W G mh (.ref q1) (.ref q2) (.ref q3) (.int (nI 0)) (.ref q4) (.int (nI 0)) (.ref q5) (.int (nI 0)) (.int (-1)) (.int (nI 0)) (.int (nI 0)) (.int (nI 0)) (.ref q6) (.int (nI 0)) (.int (nI 0)) (.ref q7) .null (.int (nI 0)) (.int (nI 0)) (.int (nI 0)) .null ++ IAW G q1 32 (fun _ => 0) ++ IAW G q2 32 (fun _ => 0) ++ IAW G q3 256 (fun _ => 0) ++ IAW G q4 32 (fun _ => 0) ++ CAW G q5 60 (fun _ => 0) ++ CAW G q6 20 (fun _ => 0) ++ IAW G q7 9 (fun _ => 0)) := hD
  refine lv_aload_n hx hb dX5_init_66 rfl (lv_at hl 0 rfl) ?_
  refine lv_bipush (v := nI 9) hx hb dX5_init_67 (by decide) ?_
  refine nw_int hx hb (hts _ q197) hK hP hD hS hA 3 rfl (n := 9) (by decide) (Nat.le_of_ble_eq_true rfl) (Nat.le_of_ble_eq_true rfl) dX5_init_69 (fun q8 H hP hD hS => ?_)
  refine W.widen (k := 8) (n := 450) (Nat.le_refl _) (Nat.le_refl _) ?_
  have hP : va_P G.1 CL (OX5W G mh (.ref q1) (.ref q2) (.ref q3) (.int (nI 0)) (.ref q4) (.int (nI 0)) (.ref q5) (.int (nI 0)) (.int (-1)) (.int (nI 0)) (.int (nI 0)) (.int (nI 0)) (.ref q6) (.int (nI 0)) (.int (nI 0)) (.ref q7) .null (.int (nI 0)) (.int (nI 0)) (.int (nI 0)) .null ++ IAW G q1 32 (fun _ => 0) ++ IAW G q2 32 (fun _ => 0) ++ IAW G q3 256 (fun _ => 0) ++ IAW G q4 32 (fun _ => 0) ++ CAW G q5 60 (fun _ => 0) ++ CAW G q6 20 (fun _ => 0) ++ IAW G q7 9 (fun _ => 0) ++ IAW G q8 9 (fun _ => 0)) _ := hP
  have hD : va_D A (OX5W G mh (.ref q1) (.ref q2) (.ref q3) (.int (nI 0)) (.ref q4) (.int (nI 0)) (.ref q5) (.int (nI 0)) (.int (-1)) (.int (nI 0)) (.int (nI 0)) (.int (nI 0)) (.ref q6) (.int (nI 0)) (.int (nI 0)) (.ref q7) .null (.int (nI 0)) (.int (nI 0)) (.int (nI 0)) .null ++ IAW G q1 32 (fun _ => 0) ++ IAW G q2 32 (fun _ => 0) ++ IAW G q3 256 (fun _ => 0) ++ IAW G q4 32 (fun _ => 0) ++ CAW G q5 60 (fun _ => 0) ++ CAW G q6 20 (fun _ => 0) ++ IAW G q7 9 (fun _ => 0) ++ IAW G q8 9 (fun _ => 0)) := hD
  refine va_putF (D := G.1) (ci := 4) (v := (.ref q8)) (C := RX5) (T := TX5) (N := 21) hx hb hts in_X5 tyX5 tyX5_ok nmX5 hown hK hP hD hS 0 rfl rfl 16 (by decide) (hts _ q1743) (fun _ h9 => h9) rfl (hini rfl) rfl (tyX5_ok 16 (by decide)) rfl rfl (Nat.le_of_ble_eq_true rfl) dX5_init_71 (fun H locs hP hD hS => ?_)
  have hP : va_P G.1 CL (OX5W G mh (.ref q1) (.ref q2) (.ref q3) (.int (nI 0)) (.ref q4) (.int (nI 0)) (.ref q5) (.int (nI 0)) (.int (-1)) (.int (nI 0)) (.int (nI 0)) (.int (nI 0)) (.ref q6) (.int (nI 0)) (.int (nI 0)) (.ref q7) (.ref q8) (.int (nI 0)) (.int (nI 0)) (.int (nI 0)) .null ++ IAW G q1 32 (fun _ => 0) ++ IAW G q2 32 (fun _ => 0) ++ IAW G q3 256 (fun _ => 0) ++ IAW G q4 32 (fun _ => 0) ++ CAW G q5 60 (fun _ => 0) ++ CAW G q6 20 (fun _ => 0) ++ IAW G q7 9 (fun _ => 0) ++ IAW G q8 9 (fun _ => 0)) _ := hP
  have hD : va_D A (OX5W G mh (.ref q1) (.ref q2) (.ref q3) (.int (nI 0)) (.ref q4) (.int (nI 0)) (.ref q5) (.int (nI 0)) (.int (-1)) (.int (nI 0)) (.int (nI 0)) (.int (nI 0)) (.ref q6) (.int (nI 0)) (.int (nI 0)) (.ref q7) (.ref q8) (.int (nI 0)) (.int (nI 0)) (.int (nI 0)) .null ++ IAW G q1 32 (fun _ => 0) ++ IAW G q2 32 (fun _ => 0) ++ IAW G q3 256 (fun _ => 0) ++ IAW G q4 32 (fun _ => 0) ++ CAW G q5 60 (fun _ => 0) ++ CAW G q6 20 (fun _ => 0) ++ IAW G q7 9 (fun _ => 0) ++ IAW G q8 9 (fun _ => 0)) := hD
  refine lv_aload_n hx hb dX5_init_74 rfl (lv_at hl 0 rfl) ?_
  refine lv_sipush (v := nI 180) hx hb dX5_init_75 (by decide) ?_
  refine nw_int hx hb (hts _ q197) hK hP hD hS hA 3 rfl (n := 180) (by decide) (Nat.le_of_ble_eq_true rfl) (Nat.le_of_ble_eq_true rfl) dX5_init_78 (fun q9 H hP hD hS => ?_)
  refine W.widen (k := 9) (n := 630) (Nat.le_refl _) (Nat.le_refl _) ?_
  have hP : va_P G.1 CL (OX5W G mh (.ref q1) (.ref q2) (.ref q3) (.int (nI 0)) (.ref q4) (.int (nI 0)) (.ref q5) (.int (nI 0)) (.int (-1)) (.int (nI 0)) (.int (nI 0)) (.int (nI 0)) (.ref q6) (.int (nI 0)) (.int (nI 0)) (.ref q7) (.ref q8) (.int (nI 0)) (.int (nI 0)) (.int (nI 0)) .null ++ IAW G q1 32 (fun _ => 0) ++ IAW G q2 32 (fun _ => 0) ++ IAW G q3 256 (fun _ => 0) ++ IAW G q4 32 (fun _ => 0) ++ CAW G q5 60 (fun _ => 0) ++ CAW G q6 20 (fun _ => 0) ++ IAW G q7 9 (fun _ => 0) ++ IAW G q8 9 (fun _ => 0) ++ IAW G q9 180 (fun _ => 0)) _ := hP
  have hD : va_D A (OX5W G mh (.ref q1) (.ref q2) (.ref q3) (.int (nI 0)) (.ref q4) (.int (nI 0)) (.ref q5) (.int (nI 0)) (.int (-1)) (.int (nI 0)) (.int (nI 0)) (.int (nI 0)) (.ref q6) (.int (nI 0)) (.int (nI 0)) (.ref q7) (.ref q8) (.int (nI 0)) (.int (nI 0)) (.int (nI 0)) .null ++ IAW G q1 32 (fun _ => 0) ++ IAW G q2 32 (fun _ => 0) ++ IAW G q3 256 (fun _ => 0) ++ IAW G q4 32 (fun _ => 0) ++ CAW G q5 60 (fun _ => 0) ++ CAW G q6 20 (fun _ => 0) ++ IAW G q7 9 (fun _ => 0) ++ IAW G q8 9 (fun _ => 0) ++ IAW G q9 180 (fun _ => 0)) := hD
  refine va_putF (D := G.1) (ci := 4) (v := (.ref q9)) (C := RX5) (T := TX5) (N := 21) hx hb hts in_X5 tyX5 tyX5_ok nmX5 hown hK hP hD hS 0 rfl rfl 20 (by decide) (hts _ q1747) (fun _ h9 => h9) rfl (hini rfl) rfl (tyX5_ok 20 (by decide)) rfl rfl (Nat.le_of_ble_eq_true rfl) dX5_init_80 (fun H locs hP hD hS => ?_)
  have hP : va_P G.1 CL (OX5W G mh (.ref q1) (.ref q2) (.ref q3) (.int (nI 0)) (.ref q4) (.int (nI 0)) (.ref q5) (.int (nI 0)) (.int (-1)) (.int (nI 0)) (.int (nI 0)) (.int (nI 0)) (.ref q6) (.int (nI 0)) (.int (nI 0)) (.ref q7) (.ref q8) (.int (nI 0)) (.int (nI 0)) (.int (nI 0)) (.ref q9) ++ IAW G q1 32 (fun _ => 0) ++ IAW G q2 32 (fun _ => 0) ++ IAW G q3 256 (fun _ => 0) ++ IAW G q4 32 (fun _ => 0) ++ CAW G q5 60 (fun _ => 0) ++ CAW G q6 20 (fun _ => 0) ++ IAW G q7 9 (fun _ => 0) ++ IAW G q8 9 (fun _ => 0) ++ IAW G q9 180 (fun _ => 0)) _ := hP
  have hD : va_D A (OX5W G mh (.ref q1) (.ref q2) (.ref q3) (.int (nI 0)) (.ref q4) (.int (nI 0)) (.ref q5) (.int (nI 0)) (.int (-1)) (.int (nI 0)) (.int (nI 0)) (.int (nI 0)) (.ref q6) (.int (nI 0)) (.int (nI 0)) (.ref q7) (.ref q8) (.int (nI 0)) (.int (nI 0)) (.int (nI 0)) (.ref q9) ++ IAW G q1 32 (fun _ => 0) ++ IAW G q2 32 (fun _ => 0) ++ IAW G q3 256 (fun _ => 0) ++ IAW G q4 32 (fun _ => 0) ++ CAW G q5 60 (fun _ => 0) ++ CAW G q6 20 (fun _ => 0) ++ IAW G q7 9 (fun _ => 0) ++ IAW G q8 9 (fun _ => 0) ++ IAW G q9 180 (fun _ => 0)) := hD
  have hP : va_P G.1 CL (MRW G mh (ad9 q1 q2 q3 q4 q5 q6 q7 q8 q9) (fun _ => nI 0) (fun _ => nI 0) (fun _ => nI 0) (fun _ => nI 0) 0 false (fun _ => 0) 0 (-1) (nI 0) (nI 0) false (fun _ => 0) 0 (nI 0) (fun _ => 0) (fun _ => 0) (nI 0) 0 false (fun _ => nI 0)) H := hP
  have hD : va_D A (MRW G mh (ad9 q1 q2 q3 q4 q5 q6 q7 q8 q9) (fun _ => nI 0) (fun _ => nI 0) (fun _ => nI 0) (fun _ => nI 0) 0 false (fun _ => 0) 0 (-1) (nI 0) (nI 0) false (fun _ => 0) 0 (nI 0) (fun _ => 0) (fun _ => 0) (nI 0) 0 false (fun _ => nI 0)) := hD
  obtain ⟨hP, hD⟩ := say_i (gZ zz0) hP hD 1 rfl gZ0
  have hP : va_P G.1 CL (MW G mh (ad9 q1 q2 q3 q4 q5 q6 q7 q8 q9) 0 0 (fun _ => 97) (fun _ => 97) (fun _ => false) (fun _ => nI 0) (fun _ => nI 0) (fun _ => nI 0) (fun _ => nI 0) 0 false (fun _ => 0) 0 (-1) (nI 0) (nI 0) false (fun _ => 0) 0 (nI 0) (fun _ => 0) (fun _ => 0) (nI 0) 0 false (fun _ => nI 0)) _ := hP
  have hD : va_D A (MW G mh (ad9 q1 q2 q3 q4 q5 q6 q7 q8 q9) 0 0 (fun _ => 97) (fun _ => 97) (fun _ => false) (fun _ => nI 0) (fun _ => nI 0) (fun _ => nI 0) (fun _ => nI 0) 0 false (fun _ => 0) 0 (-1) (nI 0) (nI 0) false (fun _ => 0) 0 (nI 0) (fun _ => 0) (fun _ => 0) (nI 0) 0 false (fun _ => nI 0)) := hD
  refine lv_aload_n hx hb dX5_init_83 rfl (lv_at hl 0 rfl) ?_
  refine lv_iconst (v := nI 3) hx hb dX5_init_84 (by decide) ?_
  refine lv_iconst (v := nI 3) hx hb dX5_init_85 (by decide) ?_
  refine callVv (As := [.int (nI 3), .int (nI 3)]) (rest := []) (wc := (MW G mh (ad9 q1 q2 q3 q4 q5 q6 q7 q8 q9) 0 0 (fun _ => 97) (fun _ => 97) (fun _ => false) (fun _ => nI 0) (fun _ => nI 0) (fun _ => nI 0) (fun _ => nI 0) 0 false (fun _ => 0) 0 (-1) (nI 0) (nI 0) false (fun _ => 0) 0 (nI 0) (fun _ => 0) (fun _ => 0) (nI 0) 0 false (fun _ => nI 0))) (wr := ([] : va_W)) ⟨hx, hb, hml, hown, hts⟩ (m_X5_lays l G mh (ad9 q1 q2 q3 q4 q5 q6 q7 q8 q9) 0 0 (fun _ => 97) (fun _ => 97) (fun _ => false) (fun _ => nI 0) (fun _ => nI 0) (fun _ => nI 0) (fun _ => nI 0) 0 false (fun _ => 0) 0 (-1) (nI 0) (nI 0) false (fun _ => 0) 0 (nI 0) (fun _ => 0) (fun _ => 0) (nI 0) 0 false (fun _ => nI 0) 3 3 (by first | assumption | omega) (by first | assumption | omega)) (cwV 2 hts (lw_V q1723 q1725 qs34 q105 q1726) rfl rfl rfl (by decide +kernel) ⟨Nat.le_of_ble_eq_true rfl, Nat.le_of_ble_eq_true rfl⟩) hK hZ hA hP hD hS [0, 1, 2, 3, 4, 5, 6, 7, 8, 9] [] rfl rfl (by decide) (by decide) (by decide) 0 4 rfl rfl rfl hl.1 (Nat.le_of_ble_eq_true rfl) ⟨Nat.le_of_ble_eq_true rfl, Nat.le_of_ble_eq_true rfl⟩ rfl dX5_init_86 (fun u9 H locs hw9 hP hD hS => ?_)
  have hP : va_P G.1 CL (MW G mh (ad9 q1 q2 q3 q4 q5 q6 q7 q8 q9) 3 3 (bdL (fun _ => 97) (3 * 3)) (bdL (fun _ => 97) (3 * 3)) (fun _ => false) (fun _ => nI 0) (fun _ => nI 0) (fun _ => nI 0) (fun _ => nI 0) 0 false (fun _ => 0) 0 (-1) (nI 0) (nI 0) false (fun _ => 0) 0 (nI 0) (fun _ => 0) (fun _ => 0) (nI 0) 0 false (fun _ => nI 0)) _ := hP
  have hD : va_D A (MW G mh (ad9 q1 q2 q3 q4 q5 q6 q7 q8 q9) 3 3 (bdL (fun _ => 97) (3 * 3)) (bdL (fun _ => 97) (3 * 3)) (fun _ => false) (fun _ => nI 0) (fun _ => nI 0) (fun _ => nI 0) (fun _ => nI 0) 0 false (fun _ => 0) 0 (-1) (nI 0) (nI 0) false (fun _ => 0) 0 (nI 0) (fun _ => 0) (fun _ => 0) (nI 0) 0 false (fun _ => nI 0)) := hD
  subst hQ
  exact ret_v hx hb hr hlk (ad9 q1 q2 q3 q4 q5 q6 q7 q8 q9) trivial hP hD hS dX5_init_89
