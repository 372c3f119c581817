/-- an iterator over a deque -/
abbrev ITW (G : GG) (h dq cu rn : Nat) (la : Int32) : va_W := [(h, .inr (10, [.int (nI cu), .int (nI rn), .int la, .ref dq]))]
set_option maxHeartbeats 4000000 in
set_option maxRecDepth 100000 in
theorem m_J1_init (l : Launch) (G : GG) (dh : Nat)  : MM l G yJ1_init cJ1_init 1 none ⟨2, 1, 17, 32⟩ [.ref dh] (OJ1W G dh .null (.int (nI 0)) (.int (nI 0))) (Qv_ G (fun (u : (DQZ)) => DQh u []) (fun (u : (DQZ)) => (DQB G dh u))) := by
  refine MM.of (by decide) (Nat.le_of_ble_eq_true rfl) ?_
  intro p e s m args below meth cd A C hini hA hK hZ hP hD ls hl
  generalize hQ : MQ below ((Qv_ G (fun (u : (DQZ)) => DQh u []) (fun (u : (DQZ)) => (DQB G dh u))) A) args s (⟨2, 1, 17, 32⟩ : Room).cells (⟨2, 1, 17, 32⟩ : Room).slots A = Q
  obtain ⟨hx, hb, hr, hts, hown, hlk, hml⟩ := C
  have hown : s.vm.findClass RJ1 = some m.cls := hown
  have hS : va_S A s.heap s.heap [] := va_S.rf
  have hl : lv_has ls 1 [(0, .ref dh)] := hl
  refine lv_aload_n hx hb dJ1_init_0 rfl (lv_at hl 0 rfl) ?_
  refine callIv (As := []) (rest := []) (wc := ([] : va_W)) (wr := (OJ1W G dh .null (.int (nI 0)) (.int (nI 0)))) ⟨hx, hb, hml, hown, hts⟩ (m_J0_init l G dh ) (cwI 0 hts (lw_meth q211) rfl rfl rfl (hts _ q91) (hts _ q209) (hts _ q210) rfl (by decide +kernel) ⟨Nat.le_of_ble_eq_true rfl, Nat.le_of_ble_eq_true rfl⟩) hK hZ hA hP hD hS [] [0] rfl rfl (by decide) (by decide) (by decide) rfl hl.1 (Nat.le_of_ble_eq_true rfl) ⟨Nat.le_of_ble_eq_true rfl, Nat.le_of_ble_eq_true rfl⟩ rfl dJ1_init_1 (fun u9 H locs hw9 hP hD hS => ?_)
  have hP : va_P G.1 CL (OJ1W G dh .null (.int (nI 0)) (.int (nI 0))) _ := hP
  have hD : va_D A (OJ1W G dh .null (.int (nI 0)) (.int (nI 0))) := hD
  refine lv_aload_n hx hb dJ1_init_4 rfl (lv_at hl 0 rfl) ?_
  refine lv_bipush (v := nI 17) hx hb dJ1_init_5 (by decide) ?_
  refine nw_obj (own := RJ1) (n := 17) hx hb hown (hts _ q213) hZ hK hP hD hS hA (by decide) (Nat.le_of_ble_eq_true rfl) (Nat.le_of_ble_eq_true rfl) dJ1_init_7 (fun q2 H hP hD hS => ?_)
  refine W.widen (k := 1) (n := 17) (Nat.le_refl _) (Nat.le_refl _) ?_
  have hP : va_P G.1 CL (OJ1W G dh .null (.int (nI 0)) (.int (nI 0)) ++ QAW G q2 (fun _ => none)) _ := hP
  have hD : va_D A (OJ1W G dh .null (.int (nI 0)) (.int (nI 0)) ++ QAW G q2 (fun _ => none)) := hD
  refine va_put (D := G.1) (ci := 8) (v := (.ref q2)) (C := RJ1) (T := TJ1) (N := 3) hx hb hts in_J1 tyJ1 tyJ1_ok nmJ1 hown hK hP hD hS 0 rfl rfl 0 (by decide) (hts _ q215) (fun _ h9 => h9) rfl (tyJ1_ok 0 (by decide)) rfl rfl (Nat.le_of_ble_eq_true rfl) dJ1_init_10 (fun H locs hP hD hS => ?_)
  have hP : va_P G.1 CL (OJ1W G dh (.ref q2) (.int (nI 0)) (.int (nI 0)) ++ QAW G q2 (fun _ => none)) _ := hP
  have hD : va_D A (OJ1W G dh (.ref q2) (.int (nI 0)) (.int (nI 0)) ++ QAW G q2 (fun _ => none)) := hD
  have hP : va_P G.1 CL (DQB G dh (q2, 0, 0, (fun _ => none))) _ := hP
  have hD : va_D A (DQB G dh (q2, 0, 0, (fun _ => none))) := hD
  subst hQ
  exact ret_v hx hb hr hlk (q2, 0, 0, (fun _ => none)) ⟨(by decide : 0 < 17), by decide, rfl, fun i hi => rfl⟩ hP hD hS dJ1_init_13
set_option maxHeartbeats 4000000 in
set_option maxRecDepth 100000 in
theorem m_J1_isEmpty (l : Launch) (G : GG) (dh : Nat) (dz : DQZ) (xs : List Nat) (hz : DQh dz xs) : MM l G yJ1_isEmpty cJ1_isEmpty 1 (some .boolean) ⟨0, 0, 0, 0⟩ [.ref dh] (DQB G dh dz) (Qi_ G (fun (r : Int32) (_ : Unit) => r = bI xs.isEmpty) (fun (_ : Unit) => (DQB G dh dz))) := by
  rcases dz with ⟨dv, hd9, tl9, dg⟩
  have hz : DQR hd9 tl9 dg xs := hz
  rw [← hz.emp]
  exact m_J1_isEmpty__o l G dh dv hd9 tl9 dg hz.1 hz.tl
set_option maxHeartbeats 4000000 in
set_option maxRecDepth 100000 in
theorem m_J1_size (l : Launch) (G : GG) (dh : Nat) (dz : DQZ) (xs : List Nat) (hz : DQh dz xs) : MM l G yJ1_size cJ1_size 1 (some .int) ⟨1, 0, 0, 22⟩ [.ref dh] (DQB G dh dz) (Qi_ G (fun (r : Int32) (_ : Unit) => r = nI xs.length) (fun (_ : Unit) => (DQB G dh dz))) := by
  rcases dz with ⟨dv, hd9, tl9, dg⟩
  have hz : DQR hd9 tl9 dg xs := hz
  rw [← hz.size]
  exact m_J1_size__o l G dh dv hd9 tl9 dg hz.1 hz.tl
set_option maxHeartbeats 4000000 in
set_option maxRecDepth 100000 in
theorem m_J1_pollFirst (l : Launch) (G : GG) (dh : Nat) (dz : DQZ) (x : Nat) (xs : List Nat) (hz : DQh dz (x :: xs)) : MM l G yJ1_pollFirst cJ1_pollFirst 4 (some (.object "java/lang/Object")) ⟨1, 0, 0, 21⟩ [.ref dh] (DQB G dh dz) (Qr_ G (fun (r : Nat) (u : (DQZ)) => (r = x) ∧ (DQh u xs)) (fun (r : Nat) (u : (DQZ)) => (DQB G dh u))) := by
  rcases dz with ⟨dv, hd9, tl9, dg⟩
  have hz : DQR hd9 tl9 dg (x :: xs) := hz
  have ht := hz.tl
  refine (m_J1_pollFirst__o l G dh dv hd9 tl9 dg x hz.1 hz.at0).mono (fun A a s o t h => ?_)
  obtain ⟨⟨u, r, e, -, hr, hB⟩, hF⟩ := h
  exact ⟨⟨(dv, (hd9 + 1) % 17, tl9, va_up dg hd9 none), r, e, trivial, ⟨hr, hz.pop0⟩, hB⟩, hF⟩
set_option maxHeartbeats 4000000 in
set_option maxRecDepth 100000 in
theorem m_J1_pollLast (l : Launch) (G : GG) (dh : Nat) (dz : DQZ) (x : Nat) (xs : List Nat) (hz : DQh dz (xs ++ [x])) : MM l G yJ1_pollLast cJ1_pollLast 4 (some (.object "java/lang/Object")) ⟨1, 0, 0, 21⟩ [.ref dh] (DQB G dh dz) (Qr_ G (fun (r : Nat) (u : (DQZ)) => (r = x) ∧ (DQh u xs)) (fun (r : Nat) (u : (DQZ)) => (DQB G dh u))) := by
  rcases dz with ⟨dv, hd9, tl9, dg⟩
  have hz : DQR hd9 tl9 dg (xs ++ [x]) := hz
  have ht := hz.tl
  refine (m_J1_pollLast__o l G dh dv hd9 tl9 dg x ht (by rw [hz.atl.1]; exact Nat.mod_lt _ (by decide)) hz.atl.2).mono (fun A a s o t h => ?_)
  obtain ⟨⟨u, r, e, -, hr, hB⟩, hF⟩ := h
  exact ⟨⟨(dv, hd9, dcN tl9 17, va_up dg (dcN tl9 17) none), r, e, trivial, ⟨hr, hz.popl⟩, hB⟩, hF⟩
set_option maxHeartbeats 4000000 in
set_option maxRecDepth 100000 in
theorem m_J1_addLast__P (l : Launch) (G : GG) (dh : Nat) (dz : DQZ) (ph : Nat) (pd : Nat → Nat) (nr : Nat) (nc : Nat) (pL : Nat → Nat) (pG : Nat → Nat) (pB : Nat → Bool) (pk : Nat → Int32) (pa : Nat → Nat) (pt : Nat → Nat) (pm : Nat) (xs : List Nat) (hz : DQh dz xs) (hn : xs.length < 16) : MM l G yJ1_addLast cJ1_addLast 3 none ⟨1, 0, 0, 21⟩ [.ref dh, .ref ph] (DQB G dh dz ++ PW G ph pd nr nc pL pG pB pk pa pt pm) (Qv_ G (fun (u : (DQZ)) => DQh u (xs ++ [ph])) (fun (u : (DQZ)) => (DQB G dh u ++ PW G ph pd nr nc pL pG pB pk pa pt pm))) := by
  rcases dz with ⟨dv, hd9, tl9, dg⟩
  have hz : DQR hd9 tl9 dg xs := hz
  have ht := hz.tl
  refine (m_J1_addLast__oP l G dh dv hd9 tl9 dg ph pd nr nc pL pG pB pk pa pt pm ht (by obtain ⟨h1, h2, h3, -⟩ := hz; omega) hz.1).mono (fun A a s o t h => ?_)
  obtain ⟨⟨u, e, -, hB⟩, hF⟩ := h
  exact ⟨⟨(dv, hd9, (tl9 + 1) % 17, va_up dg tl9 (some ph)), e, hz.push hn, hB⟩, hF⟩
set_option maxHeartbeats 4000000 in
set_option maxRecDepth 100000 in
theorem m_J1_addLast__I (l : Launch) (G : GG) (dh : Nat) (dz : DQZ) (xs : List Nat) (k : Nat) (hz : DQh dz xs) (hn : xs.length < 16) (hIC : ICok G) (hk : k < 256) : MM l G yJ1_addLast cJ1_addLast 3 none ⟨1, 0, 0, 21⟩ [.ref dh, .ref (icA G k)] (DQB G dh dz) (Qv_ G (fun (u : (DQZ)) => DQh u (xs ++ [icA G k])) (fun (u : (DQZ)) => (DQB G dh u))) := by
  rcases dz with ⟨dv, hd9, tl9, dg⟩
  have hz : DQR hd9 tl9 dg xs := hz
  have ht := hz.tl
  refine (m_J1_addLast__oI l G dh dv hd9 tl9 dg k ht (by obtain ⟨h1, h2, h3, -⟩ := hz; omega) hz.1 hIC hk).mono (fun A a s o t h => ?_)
  obtain ⟨⟨u, e, -, hB⟩, hF⟩ := h
  exact ⟨⟨(dv, hd9, (tl9 + 1) % 17, va_up dg tl9 (some (icA G k))), e, hz.push hn, hB⟩, hF⟩
set_option maxHeartbeats 4000000 in
set_option maxRecDepth 100000 in
theorem m_J19_init__o (l : Launch) (G : GG) (ih : Nat) (dh : Nat) (dv : Nat) (hd9 : Nat) (tl9 : Nat) (dg : Nat → Option Nat) (h1 : hd9 < 17) (h2 : tl9 < 17) : MM l G yJ19_init cJ19_init 2 none ⟨2, 0, 0, 42⟩ [.ref ih, .ref dh] (OJ19W G ih (.int (nI 0)) (.int (nI 0)) (.int (nI 0)) .null ++ DOW G dh dv hd9 tl9 ++ QAW G dv dg) (Qv_ G (fun (_ : Unit) => True) (fun (_ : Unit) => (ITW G ih dh hd9 (sbN tl9 hd9 17) (-1) ++ DOW G dh dv hd9 tl9 ++ QAW G dv dg))) := by
  refine MM.of (by decide) (Nat.le_of_ble_eq_true rfl) ?_
  intro p e s m args below meth cd A C hini hA hK hZ hP hD ls hl
  generalize hQ : MQ below ((Qv_ G (fun (_ : Unit) => True) (fun (_ : Unit) => (ITW G ih dh hd9 (sbN tl9 hd9 17) (-1) ++ DOW G dh dv hd9 tl9 ++ QAW G dv dg))) A) args s (⟨2, 0, 0, 42⟩ : Room).cells (⟨2, 0, 0, 42⟩ : Room).slots A = Q
  obtain ⟨hx, hb, hr, hts, hown, hlk, hml⟩ := C
  have hown : s.vm.findClass RJ19 = some m.cls := hown
  have hS : va_S A s.heap s.heap [] := va_S.rf
  have hl : lv_has ls 2 [(0, .ref ih), (1, .ref dh)] := hl
  refine lv_aload_n hx hb dJ19_init_0 rfl (lv_at hl 0 rfl) ?_
  refine lv_aload_n hx hb dJ19_init_1 rfl (lv_at hl 1 rfl) ?_
  refine va_putF (D := G.1) (ci := 10) (v := (.ref dh)) (C := RJ19) (T := TJ19) (N := 4) hx hb hts in_J19 tyJ19 tyJ19_ok nmJ19 hown hK hP hD hS 0 rfl rfl 3 (by decide) (hts _ q619) (fun _ h9 => h9) rfl (hini rfl) rfl (tyJ19_ok 3 (by decide)) rfl rfl (Nat.le_of_ble_eq_true rfl) dJ19_init_2 (fun H locs hP hD hS => ?_)
  have hP : va_P G.1 CL (OJ19W G ih (.int (nI 0)) (.int (nI 0)) (.int (nI 0)) (.ref dh) ++ DOW G dh dv hd9 tl9 ++ QAW G dv dg) _ := hP
  have hD : va_D A (OJ19W G ih (.int (nI 0)) (.int (nI 0)) (.int (nI 0)) (.ref dh) ++ DOW G dh dv hd9 tl9 ++ QAW G dv dg) := hD
  refine lv_aload_n hx hb dJ19_init_5 rfl (lv_at hl 0 rfl) ?_
  refine W.objInit hx hb hown (hts _ q608) (hts _ q129) (hts _ q130) rfl (by rw [hml]; exact hl.1) rfl dJ19_init_6 (Nat.le_of_ble_eq_true rfl) (Nat.le_of_ble_eq_true rfl) ?_
  refine W.eq (g2 := F0 m 9 ls []) rfl ?_
  refine lv_aload_n hx hb dJ19_init_9 rfl (lv_at hl 0 rfl) ?_
  refine lv_aload_n hx hb dJ19_init_10 rfl (lv_at hl 0 rfl) ?_
  refine va_get (D := G.1) (ci := 10) (v := .ref dh) (C := RJ19) (T := TJ19) (N := 4) hx hb hts in_J19 hown hK hP 0 rfl rfl 3 (by decide) (hts _ q619) (fun _ h9 => h9) rfl dJ19_init_11 ?_
  refine callVi (As := []) (rest := [.ref ih]) (wc := (DOW G dh dv hd9 tl9 ++ QAW G dv dg)) (wr := (OJ19W G ih (.int (nI 0)) (.int (nI 0)) (.int (nI 0)) (.ref dh))) ⟨hx, hb, hml, hown, hts⟩ (m_J1_size__o l G dh dv hd9 tl9 dg (by first | assumption | omega) (by first | assumption | omega)) (cwV 0 hts (lw_V q609 q610 q611 q92 q612) rfl rfl rfl (by decide +kernel) ⟨Nat.le_of_ble_eq_true rfl, Nat.le_of_ble_eq_true rfl⟩) hK hZ hA hP hD hS [1, 2] [0] rfl rfl (by decide) (by decide) (by decide) 0 8 rfl rfl rfl hl.1 (Nat.le_of_ble_eq_true rfl) ⟨Nat.le_of_ble_eq_true rfl, Nat.le_of_ble_eq_true rfl⟩ rfl dJ19_init_14 (fun r9 u9 H locs hw9 hP hD hS => ?_)
  subst hw9
  have hP : va_P G.1 CL (OJ19W G ih (.int (nI 0)) (.int (nI 0)) (.int (nI 0)) (.ref dh) ++ DOW G dh dv hd9 tl9 ++ QAW G dv dg) _ := hP
  have hD : va_D A (OJ19W G ih (.int (nI 0)) (.int (nI 0)) (.int (nI 0)) (.ref dh) ++ DOW G dh dv hd9 tl9 ++ QAW G dv dg) := hD
  refine va_put (D := G.1) (ci := 10) (v := (.int (nI (sbN tl9 hd9 17)))) (C := RJ19) (T := TJ19) (N := 4) hx hb hts in_J19 tyJ19 tyJ19_ok nmJ19 hown hK hP hD hS 0 rfl rfl 1 (by decide) (hts _ q617) (fun _ h9 => h9) rfl (tyJ19_ok 1 (by decide)) rfl rfl (Nat.le_of_ble_eq_true rfl) dJ19_init_17 (fun H locs hP hD hS => ?_)
  have hP : va_P G.1 CL (OJ19W G ih (.int (nI 0)) (.int (nI (sbN tl9 hd9 17))) (.int (nI 0)) (.ref dh) ++ DOW G dh dv hd9 tl9 ++ QAW G dv dg) _ := hP
  have hD : va_D A (OJ19W G ih (.int (nI 0)) (.int (nI (sbN tl9 hd9 17))) (.int (nI 0)) (.ref dh) ++ DOW G dh dv hd9 tl9 ++ QAW G dv dg) := hD
  refine lv_aload_n hx hb dJ19_init_20 rfl (lv_at hl 0 rfl) ?_
  refine lv_iconst (v := (-1)) hx hb dJ19_init_21 (by decide) ?_
  refine va_put (D := G.1) (ci := 10) (v := (.int (-1))) (C := RJ19) (T := TJ19) (N := 4) hx hb hts in_J19 tyJ19 tyJ19_ok nmJ19 hown hK hP hD hS 0 rfl rfl 2 (by decide) (hts _ q618) (fun _ h9 => h9) rfl (tyJ19_ok 2 (by decide)) rfl rfl (Nat.le_of_ble_eq_true rfl) dJ19_init_22 (fun H locs hP hD hS => ?_)
  have hP : va_P G.1 CL (OJ19W G ih (.int (nI 0)) (.int (nI (sbN tl9 hd9 17))) (.int (-1)) (.ref dh) ++ DOW G dh dv hd9 tl9 ++ QAW G dv dg) _ := hP
  have hD : va_D A (OJ19W G ih (.int (nI 0)) (.int (nI (sbN tl9 hd9 17))) (.int (-1)) (.ref dh) ++ DOW G dh dv hd9 tl9 ++ QAW G dv dg) := hD
  refine lv_aload_n hx hb dJ19_init_25 rfl (lv_at hl 0 rfl) ?_
  refine lv_aload_n hx hb dJ19_init_26 rfl (lv_at hl 1 rfl) ?_
  refine va_get (D := G.1) (ci := 8) (v := .int (nI hd9)) (C := RJ1) (T := TJ1) (N := 3) hx hb hts in_J1 hown hK hP 1 rfl rfl 1 (by decide) (hts _ q217) (fun _ h9 => h9) rfl dJ19_init_27 ?_
  refine va_put (D := G.1) (ci := 10) (v := (.int (nI hd9))) (C := RJ19) (T := TJ19) (N := 4) hx hb hts in_J19 tyJ19 tyJ19_ok nmJ19 hown hK hP hD hS 0 rfl rfl 0 (by decide) (hts _ q616) (fun _ h9 => h9) rfl (tyJ19_ok 0 (by decide)) rfl rfl (Nat.le_of_ble_eq_true rfl) dJ19_init_30 (fun H locs hP hD hS => ?_)
  have hP : va_P G.1 CL (OJ19W G ih (.int (nI hd9)) (.int (nI (sbN tl9 hd9 17))) (.int (-1)) (.ref dh) ++ DOW G dh dv hd9 tl9 ++ QAW G dv dg) _ := hP
  have hD : va_D A (OJ19W G ih (.int (nI hd9)) (.int (nI (sbN tl9 hd9 17))) (.int (-1)) (.ref dh) ++ DOW G dh dv hd9 tl9 ++ QAW G dv dg) := hD
  have hP : va_P G.1 CL (ITW G ih dh hd9 (sbN tl9 hd9 17) (-1) ++ DOW G dh dv hd9 tl9 ++ QAW G dv dg) _ := hP
  have hD : va_D A (ITW G ih dh hd9 (sbN tl9 hd9 17) (-1) ++ DOW G dh dv hd9 tl9 ++ QAW G dv dg) := hD
  subst hQ
  exact ret_v hx hb hr hlk () trivial hP hD hS dJ19_init_33
set_option maxHeartbeats 4000000 in
set_option maxRecDepth 100000 in
theorem m_J1_iterator__o (l : Launch) (G : GG) (dh : Nat) (dv : Nat) (hd9 : Nat) (tl9 : Nat) (dg : Nat → Option Nat) (h1 : hd9 < 17) (h2 : tl9 < 17) : MM l G yJ1_iterator cJ1_iterator 1 (some (.object "java/util/Iterator")) ⟨3, 1, 4, 63⟩ [.ref dh] (DOW G dh dv hd9 tl9 ++ QAW G dv dg) (Qr_ G (fun (r : Nat) (_ : Unit) => True) (fun (r : Nat) (_ : Unit) => (DOW G dh dv hd9 tl9 ++ QAW G dv dg ++ ITW G r dh hd9 (sbN tl9 hd9 17) (-1)))) := by
  refine MM.of (by decide) (Nat.le_of_ble_eq_true rfl) ?_
  intro p e s m args below meth cd A C hini hA hK hZ hP hD ls hl
  generalize hQ : MQ below ((Qr_ G (fun (r : Nat) (_ : Unit) => True) (fun (r : Nat) (_ : Unit) => (DOW G dh dv hd9 tl9 ++ QAW G dv dg ++ ITW G r dh hd9 (sbN tl9 hd9 17) (-1)))) A) args s (⟨3, 1, 4, 63⟩ : Room).cells (⟨3, 1, 4, 63⟩ : Room).slots A = Q
  obtain ⟨hx, hb, hr, hts, hown, hlk, hml⟩ := C
  have hown : s.vm.findClass RJ1 = some m.cls := hown
  have hS : va_S A s.heap s.heap [] := va_S.rf
  have hl : lv_has ls 1 [(0, .ref dh)] := hl
  refine va_new (own := RJ1) (C := RJ19) (T := TJ19) (N := 4) (ci := 10) (index := 131) hx hb hts in_J19 tyJ19 tyJ19_ok hown (hts _ q603) (hts _ q604) (hts _ q116) hK hP hD hS hA rfl (fs := [(.int (nI 0)), (.int (nI 0)), (.int (nI 0)), .null]) (fun j hj => by rcases (show j = 0 ∨ j = 1 ∨ j = 2 ∨ j = 3 by omega) with rfl | rfl | rfl | rfl <;> rfl) (Nat.le_of_ble_eq_true rfl) (Nat.le_of_ble_eq_true rfl) dJ1_iterator_0 (fun q1 H hP hD hS => ?_)
  refine W.widen (k := 1) (n := 4) (Nat.le_refl _) (Nat.le_refl _) ?_
  have hP : va_P G.1 CL (DOW G dh dv hd9 tl9 ++ QAW G dv dg ++ OJ19W G q1 (.int (nI 0)) (.int (nI 0)) (.int (nI 0)) .null) _ := hP
  have hD : va_D A (DOW G dh dv hd9 tl9 ++ QAW G dv dg ++ OJ19W G q1 (.int (nI 0)) (.int (nI 0)) (.int (nI 0)) .null) := hD
  refine lv_dup hx hb dJ1_iterator_3 rfl ?_
  refine lv_aload_n hx hb dJ1_iterator_4 rfl (lv_at hl 0 rfl) ?_
  refine callIv (As := [.ref dh]) (rest := [.ref q1]) (wc := (OJ19W G q1 (.int (nI 0)) (.int (nI 0)) (.int (nI 0)) .null ++ DOW G dh dv hd9 tl9 ++ QAW G dv dg)) (wr := ([] : va_W)) ⟨hx, hb, hml, hown, hts⟩ (m_J19_init__o l G q1 dh dv hd9 tl9 dg (by first | assumption | omega) (by first | assumption | omega)) (cwI 1 hts (lw_meth q607) rfl rfl rfl (hts _ q116) (hts _ q605) (hts _ q606) rfl (by decide +kernel) ⟨Nat.le_of_ble_eq_true rfl, Nat.le_of_ble_eq_true rfl⟩) hK hZ hA hP hD hS [2, 0, 1] [] rfl rfl (by decide) (by decide) (by decide) rfl hl.1 (Nat.le_of_ble_eq_true rfl) ⟨Nat.le_of_ble_eq_true rfl, Nat.le_of_ble_eq_true rfl⟩ rfl dJ1_iterator_5 (fun u9 H locs hw9 hP hD hS => ?_)
  obtain ⟨hP, hD⟩ := re_PD (w := (DOW G dh dv hd9 tl9 ++ QAW G dv dg ++ ITW G q1 dh hd9 (sbN tl9 hd9 17) (-1))) hP hD [1, 2, 0] (by decide) rfl
  subst hQ
  exact ret_r hx hb hr (Or.inl ⟨_, rfl⟩) hlk () trivial hP hD hS dJ1_iterator_8
set_option maxHeartbeats 4000000 in
set_option maxRecDepth 100000 in
theorem m_J19_hasNext (l : Launch) (G : GG) (ih : Nat) (dh : Nat) (cu : Nat) (rn : Nat) (la : Int32) (hr9 : rn < 1000) : MM l G yJ19_hasNext cJ19_hasNext 1 (some .boolean) ⟨0, 0, 0, 0⟩ [.ref ih] (ITW G ih dh cu rn la) (Qi_ G (fun (r : Int32) (_ : Unit) => r = bI (decide (0 < rn))) (fun (_ : Unit) => (ITW G ih dh cu rn la))) := by
  refine MM.of (by decide) (Nat.le_of_ble_eq_true rfl) ?_
  intro p e s m args below meth cd A C hini hA hK hZ hP hD ls hl
  generalize hQ : MQ below ((Qi_ G (fun (r : Int32) (_ : Unit) => r = bI (decide (0 < rn))) (fun (_ : Unit) => (ITW G ih dh cu rn la))) A) args s (⟨0, 0, 0, 0⟩ : Room).cells (⟨0, 0, 0, 0⟩ : Room).slots A = Q
  obtain ⟨hx, hb, hr, hts, hown, hlk, hml⟩ := C
  have hown : s.vm.findClass RJ19 = some m.cls := hown
  have hS : va_S A s.heap s.heap [] := va_S.rf
  have hl : lv_has ls 1 [(0, .ref ih)] := hl
  refine lv_aload_n hx hb dJ19_hasNext_0 rfl (lv_at hl 0 rfl) ?_
  refine va_get (D := G.1) (ci := 10) (v := .int (nI rn)) (C := RJ19) (T := TJ19) (N := 4) hx hb hts in_J19 hown hK hP 0 rfl rfl 1 (by decide) (hts _ q617) (fun _ h9 => h9) rfl dJ19_hasNext_1 ?_
  refine n_if_le (tgt := 11) hx hb dJ19_hasNext_4 (by decide) (by omega) (fun c4 => ?_) (fun c4 => ?_)
  · skip
    refine lv_iconst (v := nI 0) hx hb dJ19_hasNext_11 (by decide) ?_
    subst hQ
    exact ret_i hx hb hr hlk () (bI_d0 (by omega)) hP hD hS rfl dJ19_hasNext_12
  · skip
    refine lv_iconst (v := nI 1) hx hb dJ19_hasNext_7 (by decide) ?_
    refine lv_goto (tgt := 12) hx hb dJ19_hasNext_8 (by decide) ?_
    subst hQ
    exact ret_i hx hb hr hlk () (bI_d1 (by omega)) hP hD hS rfl dJ19_hasNext_12
set_option maxHeartbeats 4000000 in
set_option maxRecDepth 100000 in
theorem m_J19_next__o (l : Launch) (G : GG) (ih : Nat) (dh : Nat) (cu : Nat) (rn : Nat) (la : Int32) (dv : Nat) (hd9 : Nat) (tl9 : Nat) (dg : Nat → Option Nat) (x : Nat) (hr0 : 0 < rn) (hr9 : rn < 1000) (hc : cu < 17) (hx1 : dg cu = some x) : MM l G yJ19_next cJ19_next 3 (some (.object "java/lang/Object")) ⟨1, 0, 0, 22⟩ [.ref ih] (ITW G ih dh cu rn la ++ DOW G dh dv hd9 tl9 ++ QAW G dv dg) (Qr_ G (fun (r : Nat) (_ : Unit) => r = x) (fun (r : Nat) (_ : Unit) => (ITW G ih dh ((cu + 1) % 17) (rn - 1) (nI cu) ++ DOW G dh dv hd9 tl9 ++ QAW G dv dg))) := by
  refine MM.of (by decide) (Nat.le_of_ble_eq_true rfl) ?_
  intro p e s m args below meth cd A C hini hA hK hZ hP hD ls hl
  generalize hQ : MQ below ((Qr_ G (fun (r : Nat) (_ : Unit) => r = x) (fun (r : Nat) (_ : Unit) => (ITW G ih dh ((cu + 1) % 17) (rn - 1) (nI cu) ++ DOW G dh dv hd9 tl9 ++ QAW G dv dg))) A) args s (⟨1, 0, 0, 22⟩ : Room).cells (⟨1, 0, 0, 22⟩ : Room).slots A = Q
  obtain ⟨hx, hb, hr, hts, hown, hlk, hml⟩ := C
  have hown : s.vm.findClass RJ19 = some m.cls := hown
  have hS : va_S A s.heap s.heap [] := va_S.rf
  have hl : lv_has ls 3 [(0, .ref ih)] := hl
  refine lv_aload_n hx hb dJ19_next_0 rfl (lv_at hl 0 rfl) ?_
  refine va_get (D := G.1) (ci := 10) (v := .int (nI rn)) (C := RJ19) (T := TJ19) (N := 4) hx hb hts in_J19 hown hK hP 0 rfl rfl 1 (by decide) (hts _ q617) (fun _ h9 => h9) rfl dJ19_next_1 ?_
  refine n_if_gt (tgt := 15) hx hb dJ19_next_4 (by decide) (by omega) (fun c4 => ?_) (fun c4 => ?_)
  rotate_left
  · exact absurd c4 (by omega)
  refine lv_aload_n hx hb dJ19_next_15 rfl (lv_at hl 0 rfl) ?_
  refine va_get (D := G.1) (ci := 10) (v := .ref dh) (C := RJ19) (T := TJ19) (N := 4) hx hb hts in_J19 hown hK hP 0 rfl rfl 3 (by decide) (hts _ q619) (fun _ h9 => h9) rfl dJ19_next_16 ?_
  refine va_get (D := G.1) (ci := 8) (v := .ref dv) (C := RJ1) (T := TJ1) (N := 3) hx hb hts in_J1 hown hK hP 1 rfl rfl 0 (by decide) (hts _ q216) (fun _ h9 => h9) rfl dJ19_next_19 ?_
  refine lv_astore_n (lv' := [(1, .ref dv), (0, .ref ih)]) hx hb dJ19_next_22 rfl hl (by decide) rfl (fun ls hl => ?_)
  refine lv_aload_n hx hb dJ19_next_23 rfl (lv_at hl 0 rfl) ?_
  refine lv_aload_n hx hb dJ19_next_24 rfl (lv_at hl 1 rfl) ?_
  refine va_get (D := G.1) (ci := 10) (v := .int (nI cu)) (C := RJ19) (T := TJ19) (N := 4) hx hb hts in_J19 hown hK hP 0 rfl rfl 0 (by decide) (hts _ q616) (fun _ h9 => h9) rfl dJ19_next_25 ?_
  refine callSr (As := [.ref dv, .int (nI cu)]) (rest := []) (wc := (QAW G dv dg)) (wr := (ITW G ih dh cu rn la ++ DOW G dh dv hd9 tl9)) ⟨hx, hb, hml, hown, hts⟩ (m_J1_nonNullElementAt l G dv dg cu x (by first | assumption | omega) (by first | assumption | omega)) (va_cwS 2 hts (lw_S q669 q670 q92 q671) rfl rfl rfl (by decide +kernel) ⟨Nat.le_of_ble_eq_true rfl, Nat.le_of_ble_eq_true rfl⟩) hK hZ hA hP hD hS [2] [0, 1] rfl rfl (by decide) (by decide) (by decide) rfl hl.1 (Nat.le_of_ble_eq_true rfl) ⟨Nat.le_of_ble_eq_true rfl, Nat.le_of_ble_eq_true rfl⟩ rfl dJ19_next_28 (fun r9 u9 H locs hw9 hP hD hS => ?_)
  subst r9
  have hP : va_P G.1 CL (ITW G ih dh cu rn la ++ DOW G dh dv hd9 tl9 ++ QAW G dv dg) _ := hP
  have hD : va_D A (ITW G ih dh cu rn la ++ DOW G dh dv hd9 tl9 ++ QAW G dv dg) := hD
  refine lv_astore_n (lv' := [(2, .ref x), (1, .ref dv), (0, .ref ih)]) hx hb dJ19_next_31 rfl hl (by decide) rfl (fun ls hl => ?_)
  refine lv_aload_n hx hb dJ19_next_32 rfl (lv_at hl 2 rfl) ?_
  refine lv_aload_n hx hb dJ19_next_33 rfl (lv_at hl 2 rfl) ?_
  refine lv_aload_n hx hb dJ19_next_34 rfl (lv_at hl 2 rfl) ?_
  refine va_get (D := G.1) (ci := 10) (v := .int (nI cu)) (C := RJ19) (T := TJ19) (N := 4) hx hb hts in_J19 hown hK hP 0 rfl rfl 0 (by decide) (hts _ q616) (fun _ h9 => h9) rfl dJ19_next_35 ?_
  refine lv_dup_x1 hx hb dJ19_next_38 rfl rfl ?_
  refine va_put (D := G.1) (ci := 10) (v := .int (nI cu)) (ty := .int) (C := RJ19) (T := TJ19) (N := 4) hx hb hts in_J19 tyJ19 tyJ19_ok nmJ19 hown hK hP hD hS 0 rfl rfl 2 (by decide) (hts _ q618) (fun _ h9 => h9) rfl (by decide +kernel) rfl rfl (Nat.le_of_ble_eq_true rfl) dJ19_next_39 (fun H locs hP hD hS => ?_)
  have hP : va_P G.1 CL (ITW G ih dh cu rn (nI cu) ++ DOW G dh dv hd9 tl9 ++ QAW G dv dg) _ := hP
  have hD : va_D A (ITW G ih dh cu rn (nI cu) ++ DOW G dh dv hd9 tl9 ++ QAW G dv dg) := hD
  refine lv_aload_n hx hb dJ19_next_42 rfl (lv_at hl 1 rfl) ?_
  refine va_alen (v := nI 17) hx hb hK hP 2 6 rfl rfl rfl dJ19_next_43 ?_
  refine callSi (As := [.int (nI cu), .int (nI 17)]) (rest := [.ref ih]) (wc := ([] : va_W)) (wr := (ITW G ih dh cu rn (nI cu) ++ DOW G dh dv hd9 tl9 ++ QAW G dv dg)) ⟨hx, hb, hml, hown, hts⟩ (m_J1_inc l G cu 17 (by first | assumption | omega) (by first | assumption | omega)) (va_cwS 2 hts (lw_S q672 q302 q92 q303) rfl rfl rfl (by decide +kernel) ⟨Nat.le_of_ble_eq_true rfl, Nat.le_of_ble_eq_true rfl⟩) hK hZ hA hP hD hS [] [0, 1, 2] rfl rfl (by decide) (by decide) (by decide) rfl hl.1 (Nat.le_of_ble_eq_true rfl) ⟨Nat.le_of_ble_eq_true rfl, Nat.le_of_ble_eq_true rfl⟩ rfl dJ19_next_44 (fun r9 u9 H locs hw9 hP hD hS => ?_)
  subst hw9
  have hP : va_P G.1 CL (ITW G ih dh cu rn (nI cu) ++ DOW G dh dv hd9 tl9 ++ QAW G dv dg) _ := hP
  have hD : va_D A (ITW G ih dh cu rn (nI cu) ++ DOW G dh dv hd9 tl9 ++ QAW G dv dg) := hD
  refine va_put (D := G.1) (ci := 10) (v := .int (nI ((cu + 1) % 17))) (ty := .int) (C := RJ19) (T := TJ19) (N := 4) hx hb hts in_J19 tyJ19 tyJ19_ok nmJ19 hown hK hP hD hS 0 rfl rfl 0 (by decide) (hts _ q616) (fun _ h9 => h9) rfl (by decide +kernel) rfl rfl (Nat.le_of_ble_eq_true rfl) dJ19_next_47 (fun H locs hP hD hS => ?_)
  have hP : va_P G.1 CL (ITW G ih dh ((cu + 1) % 17) rn (nI cu) ++ DOW G dh dv hd9 tl9 ++ QAW G dv dg) _ := hP
  have hD : va_D A (ITW G ih dh ((cu + 1) % 17) rn (nI cu) ++ DOW G dh dv hd9 tl9 ++ QAW G dv dg) := hD
  refine lv_aload_n hx hb dJ19_next_50 rfl (lv_at hl 2 rfl) ?_
  refine lv_dup hx hb dJ19_next_51 rfl ?_
  refine va_get (D := G.1) (ci := 10) (v := .int (nI rn)) (C := RJ19) (T := TJ19) (N := 4) hx hb hts in_J19 hown hK hP 0 rfl rfl 1 (by decide) (hts _ q617) (fun _ h9 => h9) rfl dJ19_next_52 ?_
  refine lv_iconst (v := nI 1) hx hb dJ19_next_55 (by decide) ?_
  refine n_isub hx hb (by omega) dJ19_next_56 ?_
  refine va_put (D := G.1) (ci := 10) (v := .int (nI (rn - 1))) (ty := .int) (C := RJ19) (T := TJ19) (N := 4) hx hb hts in_J19 tyJ19 tyJ19_ok nmJ19 hown hK hP hD hS 0 rfl rfl 1 (by decide) (hts _ q617) (fun _ h9 => h9) rfl (by decide +kernel) rfl rfl (Nat.le_of_ble_eq_true rfl) dJ19_next_57 (fun H locs hP hD hS => ?_)
  have hP : va_P G.1 CL (ITW G ih dh ((cu + 1) % 17) (rn - 1) (nI cu) ++ DOW G dh dv hd9 tl9 ++ QAW G dv dg) _ := hP
  have hD : va_D A (ITW G ih dh ((cu + 1) % 17) (rn - 1) (nI cu) ++ DOW G dh dv hd9 tl9 ++ QAW G dv dg) := hD
  refine lv_aload_n hx hb dJ19_next_60 rfl (lv_at hl 0 rfl) ?_
  subst hQ
  exact ret_r hx hb hr (Or.inl ⟨_, rfl⟩) hlk () rfl hP hD hS dJ19_next_61
set_option maxHeartbeats 4000000 in
set_option maxRecDepth 100000 in
theorem m_J1_iterator (l : Launch) (G : GG) (dh : Nat) (dz : DQZ) (xs : List Nat) (hz : DQh dz xs) : MM l G yJ1_iterator cJ1_iterator 1 (some (.object "java/util/Iterator")) ⟨3, 1, 4, 63⟩ [.ref dh] (DQB G dh dz) (Qr_ G (fun (r : Nat) (_ : Unit) => True) (fun (r : Nat) (_ : Unit) => (DQB G dh dz ++ ITW G r dh ((dz.2.1 + 0) % 17) (xs.length - 0) (-1)))) := by
  rcases dz with ⟨dv, hd9, tl9, dg⟩
  have hz : DQR hd9 tl9 dg xs := hz
  refine (m_J1_iterator__o l G dh dv hd9 tl9 dg hz.1 hz.tl).mono (fun A a s o t h => ?_)
  obtain ⟨⟨u, r, e, -, hr, hB⟩, hF⟩ := h
  refine ⟨⟨(), r, e, trivial, trivial, ?_⟩, hF⟩
  rw [hz.size] at hB
  dsimp only
  rw [Nat.add_zero, Nat.mod_eq_of_lt hz.1, Nat.sub_zero]
  exact hB
set_option maxHeartbeats 4000000 in
set_option maxRecDepth 100000 in
theorem m_J19_next (l : Launch) (G : GG) (ih : Nat) (dh : Nat) (la : Int32) (dz : DQZ) (xs : List Nat) (i : Nat) (hz : DQh dz xs) (hi : i < xs.length) : MM l G yJ19_next cJ19_next 3 (some (.object "java/lang/Object")) ⟨1, 0, 0, 22⟩ [.ref ih] (ITW G ih dh ((dz.2.1 + i) % 17) (xs.length - i) la ++ DQB G dh dz) (Qr_ G (fun (r : Nat) (u : (Int32)) => r = (xs.getD i 0)) (fun (r : Nat) (u : (Int32)) => (ITW G ih dh ((dz.2.1 + (i + 1)) % 17) (xs.length - (i + 1)) u ++ DQB G dh dz))) := by
  rcases dz with ⟨dv, hd9, tl9, dg⟩
  have hz : DQR hd9 tl9 dg xs := hz
  have hl := hz.2.1
  refine (m_J19_next__o l G ih dh ((hd9 + i) % 17) (xs.length - i) la dv hd9 tl9 dg (xs.getD i 0) (by omega) (by omega) (Nat.mod_lt _ (by decide)) (by rw [hz.2.2.2 i (by omega)]; simp [hi])).mono (fun A a s o t h => ?_)
  obtain ⟨⟨u, r, e, -, hr, hB⟩, hF⟩ := h
  refine ⟨⟨nI ((hd9 + i) % 17), r, e, trivial, hr, ?_⟩, hF⟩
  rw [show ((hd9 + i) % 17 + 1) % 17 = (hd9 + (i + 1)) % 17 by omega, show xs.length - i - 1 = xs.length - (i + 1) by omega] at hB
  exact hB
