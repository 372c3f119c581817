set_option maxHeartbeats 4000000 in
set_option maxRecDepth 100000 in
theorem m_X1_refuse (l : Launch) (G : GG) (ib : Bool) (ra : Int32) (rb : Int32) (hst : l.stackTraces = false) : MX l G yX1_refuse cX1_refuse 3 none ⟨5, 1, 8, 80⟩ [.int (bI ib), .int ra, .int rb] ([] : va_W) (Qv_ G (fun (_ : Unit) => ib = false) (fun (_ : Unit) => ([] : va_W))) (XQ G (fun (_ : Unit) => RX6) (fun (_ : Unit) => ib = true) (fun (q9 : Nat) (_ : Unit) => (RFW G q9 ra rb))) := by
  refine MX.of (by decide) (Nat.le_of_ble_eq_true rfl) ?_
  intro p e s m args below meth cd A C hini hA hK hZ hP hD hnt ls hl
  generalize hQ : vx_MQ below ((Qv_ G (fun (_ : Unit) => ib = false) (fun (_ : Unit) => ([] : va_W))) A) ((XQ G (fun (_ : Unit) => RX6) (fun (_ : Unit) => ib = true) (fun (q9 : Nat) (_ : Unit) => (RFW G q9 ra rb))) A) args s (⟨5, 1, 8, 80⟩ : Room).cells (⟨5, 1, 8, 80⟩ : Room).slots A = Q
  obtain ⟨hx, hb, hr, hts, hown, hlk, hml⟩ := C
  have hown : s.vm.findClass RX1 = some m.cls := hown
  have hS : va_S A s.heap s.heap [] := va_S.rf
  have hl : lv_has ls 3 [(0, .int (bI ib)), (1, .int ra), (2, .int rb)] := hl
  refine lv_iload_n hx hb dX1_refuse_0 rfl (lv_at hl 0 rfl) ?_
  refine b_if_eq (tgt := 14) hx hb dX1_refuse_1 (by decide) (fun c1 => ?_) (fun c1 => ?_)
  · skip
    subst hQ
    refine W.widen (k := 1) (n := 8) (Nat.le_of_ble_eq_true rfl) (Nat.le_of_ble_eq_true rfl) ?_
    refine vx_ret ?_
    exact ret_v hx hb hr hlk () c1 hP hD hS dX1_refuse_14
  · skip
    refine new9 (own := RX1) (C := RY6) (T := TY6) (N := 2) (n9 := 8) (ci := 5) (index := 1) hx hb hts in_Y6 tyY6 tyY6_ok hown q1179 q1217 q109 hK hP hD hS hA rfl (fs := [.int (nI 0), .int (nI 0)]) (fun j hj => by rcases (show j = 0 ∨ j = 1 by omega) with rfl | rfl <;> rfl) (Nat.le_of_ble_eq_true rfl) (Nat.le_of_ble_eq_true rfl) dX1_refuse_4 (fun q1 H kC9 hP hD hS hkC9 hbl9 => ?_)
    refine W.widen (k := 1) (n := 8) (Nat.le_refl _) (Nat.le_refl _) ?_
    have hP : va_P G.1 CL (RFW G q1 (nI 0) (nI 0)) _ := hP
    have hD : va_D A (RFW G q1 (nI 0) (nI 0)) := hD
    refine lv_dup hx hb dX1_refuse_7 rfl ?_
    refine lv_iload_n hx hb dX1_refuse_8 rfl (lv_at hl 1 rfl) ?_
    refine lv_iload_n hx hb dX1_refuse_9 rfl (lv_at hl 2 rfl) ?_
    refine callF (As := [.int ra, .int rb]) (rest := [.ref q1]) (wc := (RFW G q1 (nI 0) (nI 0))) (wr := ([] : va_W)) (ci := 5) ⟨hx, hb, hml, hown, hts⟩ (f_X6_init l G hst q1 ra rb _ rfl) (cwI 2 hts (lw_meth q1227) rfl rfl rfl (hts _ q109) (hts _ q1225) (hts _ q1226) rfl (by decide +kernel) ⟨Nat.le_of_ble_eq_true rfl, Nat.le_of_ble_eq_true rfl⟩) hK hZ hA hP hD hS [0] [] rfl rfl (by decide) (by decide) (by decide) hkC9 hbl9 rfl hl.1 (Nat.le_of_ble_eq_true rfl) ⟨Nat.le_of_ble_eq_true rfl, Nat.le_of_ble_eq_true rfl⟩ rfl dX1_refuse_10 (fun u9 H locs hw9 hP hD hS => ?_)
    have hP : va_P G.1 CL (RFW G q1 ra rb) _ := hP
    have hD : va_D A (RFW G q1 ra rb) := hD
    refine vx_athrow hx hb dX1_refuse_13 ?_
    obtain ⟨ce9, hce, hcv, hcl⟩ := cell_of hK hP (ci := 5) (q0 := 0) rfl rfl
    have hcl : s.vm.findClass RY6 = some ce9.cls := hcl
    obtain ⟨q9, eq9⟩ : ∃ z, z = q1 := ⟨_, rfl⟩
    rw [← eq9] at hP hD hce ⊢
    have hP : va_P G.1 CL (RFW G q9 ra rb) _ := hP
    have hD : va_D A (RFW G q9 ra rb) := hD
    subst hQ
    refine vx_widen (k := 1) (n := 8) (Nat.le_of_ble_eq_true rfl) (Nat.le_of_ble_eq_true rfl) ?_
    exact out_x (by rw [hnt]; exact fun x9 hx9 => nomatch hx9) hlk () c1 hP hD hS hce hcv hcl (Nat.le_refl _) (Nat.le_refl _)
set_option maxHeartbeats 4000000 in
set_option maxRecDepth 100000 in
theorem m_X1_check (l : Launch) (G : GG) (ib : Bool) (hst : l.stackTraces = false) : MX l G yX1_check cX1_check 1 none ⟨6, 1, 6, 81⟩ [.int (bI ib)] ([] : va_W) (Qv_ G (fun (_ : Unit) => ib = true) (fun (_ : Unit) => ([] : va_W))) (XQ G (fun (_ : Unit) => RJ12) (fun (_ : Unit) => ib = false) (fun (q9 : Nat) (_ : Unit) => ([] : va_W))) := by
  refine MX.of (by decide) (Nat.le_of_ble_eq_true rfl) ?_
  intro p e s m args below meth cd A C hini hA hK hZ hP hD hnt ls hl
  generalize hQ : vx_MQ below ((Qv_ G (fun (_ : Unit) => ib = true) (fun (_ : Unit) => ([] : va_W))) A) ((XQ G (fun (_ : Unit) => RJ12) (fun (_ : Unit) => ib = false) (fun (q9 : Nat) (_ : Unit) => ([] : va_W))) A) args s (⟨6, 1, 6, 81⟩ : Room).cells (⟨6, 1, 6, 81⟩ : Room).slots A = Q
  obtain ⟨hx, hb, hr, hts, hown, hlk, hml⟩ := C
  have hown : s.vm.findClass RX1 = some m.cls := hown
  have hS : va_S A s.heap s.heap [] := va_S.rf
  have hl : lv_has ls 1 [(0, .int (bI ib))] := hl
  refine lv_iload_n hx hb dX1_check_0 rfl (lv_at hl 0 rfl) ?_
  refine b_if_ne (tgt := 12) hx hb dX1_check_1 (by decide) (fun c1 => ?_) (fun c1 => ?_)
  · skip
    subst hQ
    refine W.widen (k := 1) (n := 6) (Nat.le_of_ble_eq_true rfl) (Nat.le_of_ble_eq_true rfl) ?_
    refine vx_ret ?_
    exact ret_v hx hb hr hlk () c1 hP hD hS dX1_check_12
  · skip
    subst hQ
    exact thr0 (own := RX1) (cls := "java/lang/IllegalArgumentException") (names := ["java/lang/RuntimeException", "java/lang/Exception"]) (ik := 65) (ic := 67) hx hb hst hown (by decide) (by decide) hts hZ q1119 q106 [98, 335, 344, 355, 358, 360, 336, 337, 129, 130, 338, 343, 356, 376, 325, 377, 327, 378, 329, 339, 341, 331, 1121, 1122, 1123, 661, 316, 661, 662, 663, 664, 318, 664, 665, 666, 336, 320, 1120, 872, 873, 874, 350, 875, 876, 877, 878, 334, 333, 879] (by decide +kernel) (by decide +kernel) (by decide +kernel) hP hD hS (by rw [hml]; exact hl.1) dX1_check_4 dX1_check_7 dX1_check_8 dX1_check_11 (by rw [hnt]; exact fun x9 hx9 => nomatch hx9) (Nat.le_of_ble_eq_true rfl) (Nat.le_of_ble_eq_true rfl) (Nat.le_of_ble_eq_true rfl) (Nat.le_of_ble_eq_true rfl) hlk () rfl c1 (fun _ => rfl) (Nat.le_of_ble_eq_true rfl) (Nat.le_of_ble_eq_true rfl)
set_option maxHeartbeats 4000000 in
set_option maxRecDepth 100000 in
theorem m_X1_checkElement (l : Launch) (G : GG) (ib : Bool) (hst : l.stackTraces = false) : MX l G yX1_checkElement cX1_checkElement 1 none ⟨6, 1, 6, 81⟩ [.int (bI ib)] ([] : va_W) (Qv_ G (fun (_ : Unit) => ib = true) (fun (_ : Unit) => ([] : va_W))) (XQ G (fun (_ : Unit) => RJ16) (fun (_ : Unit) => ib = false) (fun (q9 : Nat) (_ : Unit) => ([] : va_W))) := by
  refine MX.of (by decide) (Nat.le_of_ble_eq_true rfl) ?_
  intro p e s m args below meth cd A C hini hA hK hZ hP hD hnt ls hl
  generalize hQ : vx_MQ below ((Qv_ G (fun (_ : Unit) => ib = true) (fun (_ : Unit) => ([] : va_W))) A) ((XQ G (fun (_ : Unit) => RJ16) (fun (_ : Unit) => ib = false) (fun (q9 : Nat) (_ : Unit) => ([] : va_W))) A) args s (⟨6, 1, 6, 81⟩ : Room).cells (⟨6, 1, 6, 81⟩ : Room).slots A = Q
  obtain ⟨hx, hb, hr, hts, hown, hlk, hml⟩ := C
  have hown : s.vm.findClass RX1 = some m.cls := hown
  have hS : va_S A s.heap s.heap [] := va_S.rf
  have hl : lv_has ls 1 [(0, .int (bI ib))] := hl
  refine lv_iload_n hx hb dX1_checkElement_0 rfl (lv_at hl 0 rfl) ?_
  refine b_if_ne (tgt := 12) hx hb dX1_checkElement_1 (by decide) (fun c1 => ?_) (fun c1 => ?_)
  · skip
    subst hQ
    refine W.widen (k := 1) (n := 6) (Nat.le_of_ble_eq_true rfl) (Nat.le_of_ble_eq_true rfl) ?_
    refine vx_ret ?_
    exact ret_v hx hb hr hlk () c1 hP hD hS dX1_checkElement_12
  · skip
    subst hQ
    exact thr0 (own := RX1) (cls := "java/util/NoSuchElementException") (names := ["java/lang/RuntimeException", "java/lang/Exception"]) (ik := 68) (ic := 70) hx hb hst hown (by decide) (by decide) hts hZ q1351 q111 [98, 335, 344, 355, 358, 360, 336, 337, 129, 130, 338, 343, 356, 376, 325, 377, 327, 378, 329, 339, 341, 331, 658, 659, 660, 661, 316, 661, 662, 663, 664, 318, 664, 665, 666, 336, 320, 1352, 649, 650, 651, 354, 652, 653, 654, 655, 334, 333, 656] (by decide +kernel) (by decide +kernel) (by decide +kernel) hP hD hS (by rw [hml]; exact hl.1) dX1_checkElement_4 dX1_checkElement_7 dX1_checkElement_8 dX1_checkElement_11 (by rw [hnt]; exact fun x9 hx9 => nomatch hx9) (Nat.le_of_ble_eq_true rfl) (Nat.le_of_ble_eq_true rfl) (Nat.le_of_ble_eq_true rfl) (Nat.le_of_ble_eq_true rfl) hlk () rfl c1 (fun _ => rfl) (Nat.le_of_ble_eq_true rfl) (Nat.le_of_ble_eq_true rfl)
set_option maxHeartbeats 4000000 in
set_option maxRecDepth 100000 in
theorem m_X1_checkState (l : Launch) (G : GG) (ib : Bool) (hst : l.stackTraces = false) : MX l G yX1_checkState cX1_checkState 1 none ⟨6, 1, 6, 81⟩ [.int (bI ib)] ([] : va_W) (Qv_ G (fun (_ : Unit) => ib = true) (fun (_ : Unit) => ([] : va_W))) (XQ G (fun (_ : Unit) => RJ9) (fun (_ : Unit) => ib = false) (fun (q9 : Nat) (_ : Unit) => ([] : va_W))) := by
  refine MX.of (by decide) (Nat.le_of_ble_eq_true rfl) ?_
  intro p e s m args below meth cd A C hini hA hK hZ hP hD hnt ls hl
  generalize hQ : vx_MQ below ((Qv_ G (fun (_ : Unit) => ib = true) (fun (_ : Unit) => ([] : va_W))) A) ((XQ G (fun (_ : Unit) => RJ9) (fun (_ : Unit) => ib = false) (fun (q9 : Nat) (_ : Unit) => ([] : va_W))) A) args s (⟨6, 1, 6, 81⟩ : Room).cells (⟨6, 1, 6, 81⟩ : Room).slots A = Q
  obtain ⟨hx, hb, hr, hts, hown, hlk, hml⟩ := C
  have hown : s.vm.findClass RX1 = some m.cls := hown
  have hS : va_S A s.heap s.heap [] := va_S.rf
  have hl : lv_has ls 1 [(0, .int (bI ib))] := hl
  refine lv_iload_n hx hb dX1_checkState_0 rfl (lv_at hl 0 rfl) ?_
  refine b_if_ne (tgt := 12) hx hb dX1_checkState_1 (by decide) (fun c1 => ?_) (fun c1 => ?_)
  · skip
    subst hQ
    refine W.widen (k := 1) (n := 6) (Nat.le_of_ble_eq_true rfl) (Nat.le_of_ble_eq_true rfl) ?_
    refine vx_ret ?_
    exact ret_v hx hb hr hlk () c1 hP hD hS dX1_checkState_12
  · skip
    subst hQ
    exact thr0 (own := RX1) (cls := "java/lang/IllegalStateException") (names := ["java/lang/RuntimeException", "java/lang/Exception"]) (ik := 71) (ic := 73) hx hb hst hown (by decide) (by decide) hts hZ q1536 q101 [98, 335, 344, 355, 358, 360, 336, 337, 129, 130, 338, 343, 356, 376, 325, 377, 327, 378, 329, 339, 341, 331, 1538, 1539, 1540, 661, 316, 661, 662, 663, 664, 318, 664, 665, 666, 336, 320, 1537, 314, 315, 322, 323, 324, 326, 328, 330, 334, 333, 332] (by decide +kernel) (by decide +kernel) (by decide +kernel) hP hD hS (by rw [hml]; exact hl.1) dX1_checkState_4 dX1_checkState_7 dX1_checkState_8 dX1_checkState_11 (by rw [hnt]; exact fun x9 hx9 => nomatch hx9) (Nat.le_of_ble_eq_true rfl) (Nat.le_of_ble_eq_true rfl) (Nat.le_of_ble_eq_true rfl) (Nat.le_of_ble_eq_true rfl) hlk () rfl c1 (fun _ => rfl) (Nat.le_of_ble_eq_true rfl) (Nat.le_of_ble_eq_true rfl)
set_option maxHeartbeats 4000000 in
set_option maxRecDepth 100000 in
theorem m_X1_checkIndex (l : Launch) (G : GG) (ib : Bool) (hst : l.stackTraces = false) : MX l G yX1_checkIndex cX1_checkIndex 1 none ⟨6, 1, 6, 81⟩ [.int (bI ib)] ([] : va_W) (Qv_ G (fun (_ : Unit) => ib = true) (fun (_ : Unit) => ([] : va_W))) (XQ G (fun (_ : Unit) => RJ13) (fun (_ : Unit) => ib = false) (fun (q9 : Nat) (_ : Unit) => ([] : va_W))) := by
  refine MX.of (by decide) (Nat.le_of_ble_eq_true rfl) ?_
  intro p e s m args below meth cd A C hini hA hK hZ hP hD hnt ls hl
  generalize hQ : vx_MQ below ((Qv_ G (fun (_ : Unit) => ib = true) (fun (_ : Unit) => ([] : va_W))) A) ((XQ G (fun (_ : Unit) => RJ13) (fun (_ : Unit) => ib = false) (fun (q9 : Nat) (_ : Unit) => ([] : va_W))) A) args s (⟨6, 1, 6, 81⟩ : Room).cells (⟨6, 1, 6, 81⟩ : Room).slots A = Q
  obtain ⟨hx, hb, hr, hts, hown, hlk, hml⟩ := C
  have hown : s.vm.findClass RX1 = some m.cls := hown
  have hS : va_S A s.heap s.heap [] := va_S.rf
  have hl : lv_has ls 1 [(0, .int (bI ib))] := hl
  refine lv_iload_n hx hb dX1_checkIndex_0 rfl (lv_at hl 0 rfl) ?_
  refine b_if_ne (tgt := 12) hx hb dX1_checkIndex_1 (by decide) (fun c1 => ?_) (fun c1 => ?_)
  · skip
    subst hQ
    refine W.widen (k := 1) (n := 6) (Nat.le_of_ble_eq_true rfl) (Nat.le_of_ble_eq_true rfl) ?_
    refine vx_ret ?_
    exact ret_v hx hb hr hlk () c1 hP hD hS dX1_checkIndex_12
  · skip
    subst hQ
    exact thr0 (own := RX1) (cls := "java/lang/IndexOutOfBoundsException") (names := ["java/lang/RuntimeException", "java/lang/Exception"]) (ik := 74) (ic := 76) hx hb hst hown (by decide) (by decide) hts hZ q1192 q107 [98, 335, 344, 355, 358, 360, 336, 337, 129, 130, 338, 343, 356, 376, 325, 377, 327, 378, 329, 339, 341, 331, 1202, 1203, 1204, 661, 316, 661, 662, 663, 664, 318, 664, 665, 666, 336, 320, 1201, 1193, 1194, 1195, 351, 1196, 1197, 1198, 1199, 334, 333, 1200] (by decide +kernel) (by decide +kernel) (by decide +kernel) hP hD hS (by rw [hml]; exact hl.1) dX1_checkIndex_4 dX1_checkIndex_7 dX1_checkIndex_8 dX1_checkIndex_11 (by rw [hnt]; exact fun x9 hx9 => nomatch hx9) (Nat.le_of_ble_eq_true rfl) (Nat.le_of_ble_eq_true rfl) (Nat.le_of_ble_eq_true rfl) (Nat.le_of_ble_eq_true rfl) hlk () rfl c1 (fun _ => rfl) (Nat.le_of_ble_eq_true rfl) (Nat.le_of_ble_eq_true rfl)
