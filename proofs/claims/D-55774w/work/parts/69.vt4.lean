set_option maxHeartbeats 4000000 in
set_option maxRecDepth 100000 in
theorem m_X1_because (l : Launch) (G : GG) (vh : Nat) (ph : Nat) (th : Nat) (svh : Nat) (hs9 : Bool) (ah : Nat) (bh : Nat) (lh : Nat) (rh : Nat) (fa9 : Int32) (rf9 : Int32) (de9 : Int32) (xh : Nat) (xr : Int32) (xd : Int32) (hst : l.stackTraces = false) : MM l G yX1_because cX1_because 2 (some (.object "java/lang/UnsupportedOperationException")) ⟨6, 1, 6, 81⟩ [.ref vh, .ref xh] (VTW G vh ph th svh hs9 ah bh lh rh fa9 rf9 de9 ++ RFW G xh xr xd) (Qr_ G (fun (r : Nat) (_ : Unit) => True) (fun (r : Nat) (_ : Unit) => (VTW G vh ph th svh hs9 ah bh lh rh fa9 xr xd ++ RFW G xh xr xd ++ UOW G r))) := by
  refine MM.of (by decide) (Nat.le_of_ble_eq_true rfl) ?_
  intro p e s m args below meth cd A C hini hA hK hZ hP hD ls hl
  generalize hQ : MQ below ((Qr_ G (fun (r : Nat) (_ : Unit) => True) (fun (r : Nat) (_ : Unit) => (VTW G vh ph th svh hs9 ah bh lh rh fa9 xr xd ++ RFW G xh xr xd ++ UOW G r))) A) args s (⟨6, 1, 6, 81⟩ : Room).cells (⟨6, 1, 6, 81⟩ : Room).slots A = Q
  obtain ⟨hx, hb, hr, hts, hown, hlk, hml⟩ := C
  have hown : s.vm.findClass RX1 = some m.cls := hown
  have hS : va_S A s.heap s.heap [] := va_S.rf
  have hl : lv_has ls 2 [(0, .ref vh), (1, .ref xh)] := hl
  refine lv_aload_n hx hb dX1_because_0 rfl (lv_at hl 0 rfl) ?_
  refine lv_aload_n hx hb dX1_because_1 rfl (lv_at hl 1 rfl) ?_
  refine va_getN (D := G.1) (ci := 5) (v := .int xr) (C := RY6) (T := TY6) (N := 2) hx hb hts in_Y6 hown hK hP 1 rfl rfl 0 (by decide) (va_Nw.use rfl (KS.nw hZ q1230 rfl)) (fun _ h9 => h9) rfl dX1_because_2 ?_
  refine va_put (D := G.1) (ci := 0) (v := .int xr) (ty := .int) (C := RX1) (T := TX1) (N := 11) hx hb hts in_X1 tyX1 tyX1_ok nmX1 hown hK hP hD hS 0 rfl rfl 9 (by decide) (hts _ q437) (fun _ h9 => h9) rfl (by decide +kernel) rfl rfl (Nat.le_of_ble_eq_true rfl) dX1_because_5 (fun H locs hP hD hS => ?_)
  have hP : va_P G.1 CL (VTW G vh ph th svh hs9 ah bh lh rh fa9 xr de9 ++ RFW G xh xr xd) _ := hP
  have hD : va_D A (VTW G vh ph th svh hs9 ah bh lh rh fa9 xr de9 ++ RFW G xh xr xd) := hD
  refine lv_aload_n hx hb dX1_because_8 rfl (lv_at hl 0 rfl) ?_
  refine lv_aload_n hx hb dX1_because_9 rfl (lv_at hl 1 rfl) ?_
  refine va_getN (D := G.1) (ci := 5) (v := .int xd) (C := RY6) (T := TY6) (N := 2) hx hb hts in_Y6 hown hK hP 1 rfl rfl 1 (by decide) (va_Nw.use rfl (KS.nw hZ q1232 rfl)) (fun _ h9 => h9) rfl dX1_because_10 ?_
  refine va_put (D := G.1) (ci := 0) (v := .int xd) (ty := .int) (C := RX1) (T := TX1) (N := 11) hx hb hts in_X1 tyX1 tyX1_ok nmX1 hown hK hP hD hS 0 rfl rfl 10 (by decide) (hts _ q438) (fun _ h9 => h9) rfl (by decide +kernel) rfl rfl (Nat.le_of_ble_eq_true rfl) dX1_because_13 (fun H locs hP hD hS => ?_)
  have hP : va_P G.1 CL (VTW G vh ph th svh hs9 ah bh lh rh fa9 xr xd ++ RFW G xh xr xd) _ := hP
  have hD : va_D A (VTW G vh ph th svh hs9 ah bh lh rh fa9 xr xd ++ RFW G xh xr xd) := hD
  refine vx_make0 (own := RX1) (cls := "java/lang/UnsupportedOperationException") (names := ["java/lang/RuntimeException", "java/lang/Exception"]) (ik := 87) (ic := 89) (ci := 14) hx hb hst hown (by decide) (by decide) (hts _ q1243) (hts _ q110) (hZ.all hts [98, 335, 344, 355, 358, 360, 336, 337, 129, 130, 338, 343, 356, 376, 325, 377, 327, 378, 329, 339, 341, 331, 1253, 1254, 1255, 661, 316, 661, 662, 663, 664, 318, 664, 665, 666, 336, 320, 1252, 1244, 1245, 1246, 353, 1247, 1248, 1249, 1250, 334, 333, 1251] (by decide +kernel) (by decide +kernel)) (by decide +kernel) hZ.zU hZ.zN hS (by rw [hml]; exact hl.1) dX1_because_16 dX1_because_19 dX1_because_20 hK hP hD hA rfl (Nat.le_of_ble_eq_true rfl) (Nat.le_of_ble_eq_true rfl) (Nat.le_of_ble_eq_true rfl) (Nat.le_of_ble_eq_true rfl) (fun q1 H hP hD hS => ?_)
  refine W.widen (k := 1) (n := 6) (Nat.le_refl _) (Nat.le_refl _) ?_
  have hP : va_P G.1 CL (VTW G vh ph th svh hs9 ah bh lh rh fa9 xr xd ++ RFW G xh xr xd ++ UOW G q1) _ := hP
  have hD : va_D A (VTW G vh ph th svh hs9 ah bh lh rh fa9 xr xd ++ RFW G xh xr xd ++ UOW G q1) := hD
  subst hQ
  exact ret_r hx hb hr (Or.inl ⟨_, rfl⟩) hlk () trivial hP hD hS dX1_because_23
