theorem ar_boolean {args : Array Value} {s : State} (h : (Cond.arrayClass .boolean).before args s = true) : ∃ cA, ArrOfT s cA .boolean ∧ va_RA s cA .boolean := by
  obtain ⟨cA, kA, comp, h1, h2, h3⟩ := Cond.arrayClass_spec h
  exact ⟨cA, fun n z => ⟨fun k h => (by cases h), kA, h2, comp, h3⟩, h1⟩
theorem ar_byte {args : Array Value} {s : State} (h : (Cond.arrayClass .byte).before args s = true) : ∃ cA, ArrOfT s cA .byte ∧ va_RA s cA .byte := by
  obtain ⟨cA, kA, comp, h1, h2, h3⟩ := Cond.arrayClass_spec h
  exact ⟨cA, fun n z => ⟨fun k h => (by cases h), kA, h2, comp, h3⟩, h1⟩
theorem ar_char {args : Array Value} {s : State} (h : (Cond.arrayClass .char).before args s = true) : ∃ cA, ArrOfT s cA .char ∧ va_RA s cA .char := by
  obtain ⟨cA, kA, comp, h1, h2, h3⟩ := Cond.arrayClass_spec h
  exact ⟨cA, fun n z => ⟨fun k h => (by cases h), kA, h2, comp, h3⟩, h1⟩
theorem ar_int {args : Array Value} {s : State} (h : (Cond.arrayClass .int).before args s = true) : ∃ cA, ArrOfT s cA .int ∧ va_RA s cA .int := by
  obtain ⟨cA, kA, comp, h1, h2, h3⟩ := Cond.arrayClass_spec h
  exact ⟨cA, fun n z => ⟨fun k h => (by cases h), kA, h2, comp, h3⟩, h1⟩
theorem ar_long {args : Array Value} {s : State} (h : (Cond.arrayClass .long).before args s = true) : ∃ cA, ArrOfT s cA .long ∧ va_RA s cA .long := by
  obtain ⟨cA, kA, comp, h1, h2, h3⟩ := Cond.arrayClass_spec h
  exact ⟨cA, fun n z => ⟨fun k h => (by cases h), kA, h2, comp, h3⟩, h1⟩
theorem ar_double {args : Array Value} {s : State} (h : (Cond.arrayClass .double).before args s = true) : ∃ cA, ArrOfT s cA .double ∧ va_RA s cA .double := by
  obtain ⟨cA, kA, comp, h1, h2, h3⟩ := Cond.arrayClass_spec h
  exact ⟨cA, fun n z => ⟨fun k h => (by cases h), kA, h2, comp, h3⟩, h1⟩
theorem ar_obj {s : State} (h : va_AO "java/lang/Object" s) : ∃ cA, ArrOfT s cA (.object "java/lang/Object") ∧ va_RA s cA (.object "java/lang/Object") := by
  obtain ⟨comp, cA, kA, h1, _, h3, h4, h5⟩ := Cond.arrayOver_spec (args := #[]) (first := s) (o := none) (idx := []) (n := "java/lang/Object") h
  exact ⟨cA, fun n z => ⟨fun k h => (by cases h), kA, h3, comp, h4⟩, kA, comp, h3, h4, h1, h5⟩
theorem ic_of {s : State} {b : Nat} (hl : ∀ w ∈ lw_tbl, w.before #[Value.ref b] s = true) (hg : (Jvm.Cond.and given_1 narrow_1).before #[Value.ref b] s = true) : ∃ ad : Nat → Nat, (∃ t : Nat, va_Z "java/lang/Integer$IntegerCache" "cache" "[Ljava/lang/Integer;" (.ref t) (fun q => s.heap.size ≤ q) s s.heap ∧ va_T (.object "java/lang/Integer") t 256 (fun k => .ref (ad k)) (fun q => s.heap.size ≤ q) s s.heap) ∧ vb_C ad (fun q => s.heap.size ≤ q) s s.heap := by
  have hA : ∀ a : Nat, a < s.heap.size → ¬ (fun q : Nat => s.heap.size ≤ q) a := fun a ha => Nat.not_le.mpr ha
  have fl := flat_of_before _ hg
  have h1 : (Cond.eq (.length (.static "java/lang/Integer$IntegerCache" "cache" "[Ljava/lang/Integer;")) (.int 256)).before #[Value.ref b] s = true := fl _ (by decide +kernel)
  have h2 : (Cond.all (.static "java/lang/Integer$IntegerCache" "cache" "[Ljava/lang/Integer;") (.and (.exactly (.elem (.static "java/lang/Integer$IntegerCache" "cache" "[Ljava/lang/Integer;") (.index 0)) "java/lang/Integer") (.eq (.field (.elem (.static "java/lang/Integer$IntegerCache" "cache" "[Ljava/lang/Integer;") (.index 0)) "java/lang/Integer" "value" "I") (.sub (.index 0) (.int 128))))).before #[Value.ref b] s = true := fl _ (by decide +kernel)
  have h3 : (Cond.arrayOf (.static "java/lang/Integer$IntegerCache" "cache" "[Ljava/lang/Integer;") (.object "java/lang/Integer")).before #[Value.ref b] s = true := fl _ (by decide +kernel)
  have hlen : (Term.length (.static "java/lang/Integer$IntegerCache" "cache" "[Ljava/lang/Integer;")).eval #[Value.ref b] s none [] s = some (.int (Int32.ofNat 256)) := va_eqI (u := .int 256) (by simpa [Cond.before, Cond.holds] using h1) rfl
  obtain ⟨ad, hC, hel⟩ := vb_Cof (A := fun q => s.heap.size ≤ q) rfl hlen h2 hA
  obtain ⟨t, ht, hT⟩ := va_Tof (A := fun q => s.heap.size ≤ q) (N := 256) (f := fun k => .ref (ad k)) (by decide) h3 hlen hel hA
  exact ⟨ad, ⟨t, va_Zof (hl _ q550) (hl _ (lw_all_tbl q115)) ht hA, hT⟩, hC⟩
/-- YOUR PART: from the entry, for every script of at most 256 ints, the law comes to its end with true ('hflags': the launch's flags, for a law that throws: no stack traces) -/
theorem whole_start {p : Program} {e : Env} {s : State} {m : MethodId} {below : List Frame} {meth : Method} {c : Code} (l : Launch) (hflags : l.flags = flags0) {b L : Nat} {xs : Nat → Int32} (hL : L ≤ 256) (C0 : lw_At p s m meth c b L xs) : W p l e room_1 s m #[Value.ref b] below meth c s.heap [] 0 0 (lw_Z below #[Value.ref b] s) (entryFrame m ([Value.ref b] : List Value).toArray 10) := by
  obtain ⟨hx, hb, hr, hml, hown, htb, hX, hbl, hlocks, hgv⟩ := C0
  have hts : ∀ w ∈ lw_all, w.before #[Value.ref b] s = true := fun w h => htb w (lw_all_tbl h)
  obtain ⟨d0, i0, h0⟩ := u_known (C := RX1) (T := TX1) (N := 11) hts in_X1 (hts _ q124)
  obtain ⟨d1, i1, h1⟩ := u_known (C := RX2) (T := TX2) (N := 14) hts in_X2 (hts _ q132)
  obtain ⟨d2, i2, h2⟩ := u_known (C := RX3) (T := TX3) (N := 2) hts in_X3 (hts _ q199)
  obtain ⟨d3, i3, h3⟩ := u_known (C := RX4) (T := TX4) (N := 6) hts in_X4 (hts _ q268)
  obtain ⟨d4, i4, h4⟩ := u_known (C := RX5) (T := TX5) (N := 21) hts in_X5 (hts _ q1718)
  obtain ⟨d5, i5, h5⟩ := u_known (C := RY6) (T := TY6) (N := 2) hts in_Y6 (hts _ q1217)
  obtain ⟨d6, i6, h6⟩ := u_known (C := RX7) (T := TX7) (N := 1) hts in_X7 (hts _ q529)
  obtain ⟨d7, i7, h7⟩ := u_known (C := RY8) (T := TY8) (N := 1) hts in_Y8 (hts _ q1582)
  obtain ⟨d8, i8, h8⟩ := u_known (C := RJ1) (T := TJ1) (N := 3) hts in_J1 (hts _ q205)
  obtain ⟨d9, i9, h9⟩ := u_known (C := RJ3) (T := TJ3) (N := 4) hts in_J3 (hts _ q235)
  obtain ⟨d10, i10, h10⟩ := u_known (C := RJ19) (T := TJ19) (N := 4) hts in_J19 (hts _ q604)
  obtain ⟨d11, i11, h11⟩ := u_known (C := RJ18) (T := TJ18) (N := 1) hts in_J18 (hts _ q552)
  obtain ⟨d12, i12, h12⟩ := u_known (C := RJ12) (T := TJ12) (N := 0) hts (fun w h => by simp [u_ws] at h) (hts _ q872)
  obtain ⟨d13, i13, h13⟩ := u_known (C := RJ13) (T := TJ13) (N := 0) hts (fun w h => by simp [u_ws] at h) (hts _ q1193)
  obtain ⟨d14, i14, h14⟩ := u_known (C := RJ15) (T := TJ15) (N := 0) hts (fun w h => by simp [u_ws] at h) (hts _ q1244)
  obtain ⟨d15, i15, h15⟩ := u_known (C := RJ16) (T := TJ16) (N := 0) hts (fun w h => by simp [u_ws] at h) (hts _ q649)
  obtain ⟨d16, i16, h16⟩ := u_known (C := RJ9) (T := TJ9) (N := 0) hts (fun w h => by simp [u_ws] at h) (hts _ q314)
  obtain ⟨d17, i17, h17⟩ := u_known (C := RJ24) (T := TJ24) (N := 0) hts (fun w h => by simp [u_ws] at h) (hts _ q1653)
  obtain ⟨a0, ha0, hb0⟩ := ar_boolean (hts _ q196)
  obtain ⟨a1, ha1, hb1⟩ := ar_byte (hts _ q266)
  obtain ⟨a2, ha2, hb2⟩ := ar_char (hts _ q195)
  obtain ⟨a3, ha3, hb3⟩ := ar_int (hts _ q197)
  obtain ⟨a4, ha4, hb4⟩ := ar_long (hts _ q2177)
  obtain ⟨a5, ha5, hb5⟩ := ar_double (hts _ q2178)
  obtain ⟨ad, hIC0⟩ := ic_of htb hgv
  obtain ⟨G0, hG0⟩ : ∃ G0 : GG, G0 = ((fun k => [d0, d1, d2, d3, d4, d5, d6, d7, d8, d9, d10, d11, d12, d13, d14, d15, d16, d17].getD k d0, fun k => [i0, i1, i2, i3, i4, i5, i6, i7, i8, i9, i10, i11, i12, i13, i14, i15, i16, i17].getD k i0), (fun k => if k < 10 then d0 else ad (k - 10)), s, b) := ⟨_, rfl⟩
  have hZ0 : KS G0 (fun q => s.heap.size ≤ q) s s.heap := by
    subst hG0
    exact ⟨htb, hgv, State.WarmedH.refl _, fun q hq => ⟨Nat.not_le.mpr hq, rfl⟩⟩
  obtain ⟨a6, ha6, hb6⟩ := ar_obj hZ0.ao
  obtain ⟨G, hG⟩ : ∃ G : GG, G = ((fun k => [d0, d1, d2, d3, d4, d5, d6, d7, d8, d9, d10, d11, d12, d13, d14, d15, d16, d17].getD k d0, fun k => [i0, i1, i2, i3, i4, i5, i6, i7, i8, i9, i10, i11, i12, i13, i14, i15, i16, i17].getD k i0), (fun k => if k < 10 then [a0, a1, a2, a3, a4, a5, a6].getD k d0 else ad (k - 10)), s, b) := ⟨_, rfl⟩
  have hZ : KS G (fun q => s.heap.size ≤ q) s s.heap := by
    subst hG
    exact ⟨htb, hgv, State.WarmedH.refl _, fun q hq => ⟨Nat.not_le.mpr hq, rfl⟩⟩
  have hK : va_K G.1 CL (TYS G) s := by
    subst hG
    constructor
    · intro c q hq
      have hc : c < 18 := (List.getElem?_eq_some_iff.mp hq).1
      rcases (show c = 0 ∨ c = 1 ∨ c = 2 ∨ c = 3 ∨ c = 4 ∨ c = 5 ∨ c = 6 ∨ c = 7 ∨ c = 8 ∨ c = 9 ∨ c = 10 ∨ c = 11 ∨ c = 12 ∨ c = 13 ∨ c = 14 ∨ c = 15 ∨ c = 16 ∨ c = 17 by omega) with rfl | rfl | rfl | rfl | rfl | rfl | rfl | rfl | rfl | rfl | rfl | rfl | rfl | rfl | rfl | rfl | rfl | rfl
      · exact (Option.some.inj hq) ▸ h0
      · exact (Option.some.inj hq) ▸ h1
      · exact (Option.some.inj hq) ▸ h2
      · exact (Option.some.inj hq) ▸ h3
      · exact (Option.some.inj hq) ▸ h4
      · exact (Option.some.inj hq) ▸ h5
      · exact (Option.some.inj hq) ▸ h6
      · exact (Option.some.inj hq) ▸ h7
      · exact (Option.some.inj hq) ▸ h8
      · exact (Option.some.inj hq) ▸ h9
      · exact (Option.some.inj hq) ▸ h10
      · exact (Option.some.inj hq) ▸ h11
      · exact (Option.some.inj hq) ▸ h12
      · exact (Option.some.inj hq) ▸ h13
      · exact (Option.some.inj hq) ▸ h14
      · exact (Option.some.inj hq) ▸ h15
      · exact (Option.some.inj hq) ▸ h16
      · exact (Option.some.inj hq) ▸ h17
    · intro k q hq
      have hc : k < 7 := (List.getElem?_eq_some_iff.mp hq).1
      rcases (show k = 0 ∨ k = 1 ∨ k = 2 ∨ k = 3 ∨ k = 4 ∨ k = 5 ∨ k = 6 by omega) with rfl | rfl | rfl | rfl | rfl | rfl | rfl
      · exact (Option.some.inj hq) ▸ ⟨ha0, hb0⟩
      · exact (Option.some.inj hq) ▸ ⟨ha1, hb1⟩
      · exact (Option.some.inj hq) ▸ ⟨ha2, hb2⟩
      · exact (Option.some.inj hq) ▸ ⟨ha3, hb3⟩
      · exact (Option.some.inj hq) ▸ ⟨ha4, hb4⟩
      · exact (Option.some.inj hq) ▸ ⟨ha5, hb5⟩
      · exact (Option.some.inj hq) ▸ ⟨ha6, hb6⟩
  have hIC : ICok G := by
    subst hG
    have e : icA ((fun k => [d0, d1, d2, d3, d4, d5, d6, d7, d8, d9, d10, d11, d12, d13, d14, d15, d16, d17].getD k d0, fun k => [i0, i1, i2, i3, i4, i5, i6, i7, i8, i9, i10, i11, i12, i13, i14, i15, i16, i17].getD k i0), (fun k => if k < 10 then [a0, a1, a2, a3, a4, a5, a6].getD k d0 else ad (k - 10)), s, b) = ad := by
      funext k
      show (if 10 + k < 10 then [a0, a1, a2, a3, a4, a5, a6].getD (10 + k) d0 else ad (10 + k - 10)) = ad k
      rw [if_neg (by omega), Nat.add_sub_cancel_left]
    unfold ICok
    rw [e]
    exact hIC0
  have hst : l.stackTraces = false := by unfold Launch.stackTraces; rw [hflags]; decide
  have hl := lv_entry [Value.ref b] (n := 10) (Nat.le_of_ble_eq_true rfl)
  rw [lg_entry_eq]
  exact law_begin l (G := G) (A := fun q => s.heap.size ≤ q) (b0 := b) ⟨hx, hb, hml, hown, hts, fun _ h => h, hK, hZ, hIC, hst, hX, hbl, Nat.not_le.mpr hbl, hL⟩ (fun i H locs ls hi hS => by
    refine lv_iconst (v := 1) hx hb dL_law_2164 (by decide) ?_
    refine va_forget (fun q hq => hS.2.2 q hq) ?_
    refine W.widen (k := 603072) (n := 7194730) (by omega) (by omega) ?_
    exact lw_ret hx hb hr hlocks dL_law_2165) _ hl
set_option maxHeartbeats 4000000 in
theorem lw_walk (l : Launch) (hflags : l.flags = flags0) (b : Addr) (xs : List Int32) : MetFree l x (headSpec (Jvm.Cond.code x code maxLocals ret :: tables_1) room_1) (lw_P b xs) (fun _ _ _ _ _ => True) lw_Q := by
  refine MetFree.of_bodyS (code := code) (maxLocals := maxLocals) (ret := ret) (by decide) ?_ ?_
  · intro args s m h hn
    obtain ⟨meth, c, h1, h2, h3, h4, h5, h6, -, -⟩ := Cond.code_spec hn (atoms_spec (ws := Jvm.Cond.code x code maxLocals ret :: tables_1) h _ List.mem_cons_self)
    exact ⟨meth, c, h1, h2, h3, h4, h5, h6⟩
  · intro p e s m args below meth c s₁ B hml0 hP _
    obtain ⟨rfl, hx, hbd, hgv⟩ := hP
    obtain ⟨scr, harrAt, hlist, hof, hsmall⟩ := hx
    obtain ⟨hcb, hkn, -, -⟩ := State.arrayAt?_spec harrAt
    have hown : s.vm.findClass R_law = some m.cls := findClass_of_methodNamed B.named
    have hts0 : ∀ c ∈ (Jvm.Cond.code x code maxLocals ret :: tables_1), c.before #[Value.ref b] s = true := atoms_spec (ws := Jvm.Cond.code x code maxLocals ret :: tables_1) B.pre
    have hts : ∀ w ∈ lw_tbl, w.before #[Value.ref b] s = true := k2_hts_sels lw_privs (fun w hw => hts0 w (List.mem_cons_of_mem _ hw)) lw_privs_ok
    have hml : c.maxLocals = 10 := B.maxLocals_eq (hts0 _ List.mem_cons_self)
    have X₀ : Stand p l e room_1 s m #[Value.ref b] below meth c s₁ [] 0 0 := Stand.of_body B
    have hh0 : s₁.heap = s.heap := by rw [B.state]; rfl
    have hsz : scr.slots.size = xs.length := by rw [← Array.length_toList, hlist, List.length_map]
    have hval : ∀ j : Nat, j < xs.length → scr.slots[j]? = some (.int (xs.getD j 0)) := fun j hj => by
      rw [← Array.getElem?_toList, hlist]
      simp [hj]
    have hbl : b < s.heap.size := (Array.getElem?_eq_some_iff.mp hcb).1
    have hX : va_X b xs.length (fun j => xs.getD j 0) s s.heap := ⟨scr, hcb, hof, hkn, hsz, hval⟩
    have K : W p l e room_1 s m #[Value.ref b] below meth c s₁.heap [] 0 0 (lw_Z below #[Value.ref b] s) (entryFrame m ([Value.ref b] : List Value).toArray 10) := by
      rw [hh0]
      exact whole_start l hflags hbd ⟨B.exec, B.bytes, B.returns, hml, hown, hts, hX, hbl, B.notSynchronized, hgv⟩
    obtain ⟨t, a1, o, b1, b2, b3⟩ := K s₁ rfl X₀
    exact ⟨t, o, a1, b1, b2, b3⟩
theorem lw_pre_spec {args : Array Value} {s : State} (h : (Jvm.Cond.and given_1 narrow_1).before args s = true) (hr : rest_1_c.before args s = true) : ∃ (b : Addr) (xs : List Int32), lw_P b xs args s := by
  have hs := flat_of_before _ h
  have hq := flat_of_before _ hr
  have hc : (Cond.count 1).before args s = true := hs _ (by decide +kernel)
  have harr : (Cond.arrayOf (.arg 0) .int).before args s = true := hs _ (by decide +kernel)
  have hle : (Cond.le (.length (.arg 0)) (.int 256)).before args s = true := hs _ (by decide +kernel)
  have hlen : (Cond.isInt (.length (.arg 0))).before args s = true := hq _ (by decide +kernel)
  have hall : (Cond.all (.arg 0) (.isInt (.elem (.arg 0) (.index 0)))).before args s = true := hq _ (by decide +kernel)
  obtain ⟨b, xs, hb, hx⟩ := State.ints_of_pre rfl harr hlen hall
  have hsm : xs.length < 2 ^ 31 := hx.choose_spec.2.2.2
  have hev : (Term.length (.arg 0)).eval args s none [] s = some (.int xs.length.toInt32) := hx.length_eval hb
  have hv := Cond.le_ints hev (show (Term.int 256).eval args s none [] s = some (.int 256) from rfl)
  have hd : xs.length.toInt32 ≤ 256 := by
    simpa [Cond.before, Cond.holds, hv] using hle
  have hN : xs.length ≤ 256 := (Int32.ofNat_le_ofNat hsm (by decide)).mp (show Int32.ofNat xs.length ≤ Int32.ofNat 256 from hd)
  exact ⟨b, xs, Cond.one_arg hc (show args[0]? = some (.ref b) from hb), hx, hN, h⟩
theorem lw_comes (l : Launch) (hflags : l.flags = flags0) : Comes l x (Jvm.Cond.code x code maxLocals ret :: tables_1) room_1 (fun tb e args s => Calls_1 tb e args s ∧ rest_1 tb e args s ∧ Pre_1 tb e args s)
    (fun _ _ args s o t => lw_Q args s o t) := by
  intro p e ha hc hk s m args below hf hfit hheap happ hpre
  obtain ⟨b, xs, hP⟩ := lw_pre_spec hpre.2.2 hpre.2.1
  obtain ⟨k, o, h1, h2, h3, hQ⟩ := lw_walk l hflags b xs p e ha hc hk s m args below hf ((Spec.applies_iff_loose hf).mp happ).1 hP trivial
  exact ⟨k, o, h1, h2, h3, hQ⟩
theorem lw_frame {s t : State} {o : Outcome} {args : Array Value} (h : Framed s o t [] 603072 7194730) :
    Framed s o t (fieldLocs frame_1_writes args s ++ arrayLocs frame_1_arrays args s ++ staticLocs frame_1_statics s) 603072 7194730 := h
theorem lw_limb (L : Cond) (hL : ∀ (args : Array Value) (s t : State), L.after args s (.returned (some (.int 1))) t = true) :
    ArmFor flags0 classFile x code maxLocals ret World_1 tables_1 room_1 Calls_1 rest_1 Pre_1
      (fun tb e a s o t => postC L tb e a s o t ∧ Framed s o t (fieldLocs frame_1_writes a s ++ arrayLocs frame_1_arrays a s ++ staticLocs frame_1_statics s) 603072 7194730) := by
  intro l hflags _ _ p e ha hc hk s m args below hf hfit hheap happ hpre
  obtain ⟨k, o, h1, h2, h3, rfl, hF⟩ := lw_comes l hflags p e ha hc hk s m args below hf hfit hheap happ hpre
  exact ⟨k, _, h1, h2, h3, hL args s _, lw_frame hF⟩
theorem i_vc : Claimed_1_1 ∧ Claimed_1_2 := ⟨lw_limb limb_1_1 (fun args s t => by simp [limb_1_1, Cond.after, Cond.holds, Cond.value]), lw_limb limb_1_2 (fun args s t => Cond.after_iff.mpr (by
  first | (rw [show limb_1_2 = Cond.eq .result (.int 1) from rfl, Cond.eq_ints (x := 1) (y := 1) rfl rfl]; simp; done) | (simp [limb_1_2, Cond.value, Term.eval]; done)))⟩
