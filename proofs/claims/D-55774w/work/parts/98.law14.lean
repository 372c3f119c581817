/-! THE CLAIM OUT OF ONE WALK OF THE LAW'S BODY. Your part is whole_start (and what it stands on); all else here is the same for every law, but numbers. -/
def R_law : String := "VowelTorusLaw"
def lw_P (b : Addr) (xs : List Int32) (args : Array Value) (s : State) : Prop := args = #[.ref b] ∧ s.IntsAt b xs ∧ xs.length ≤ 256 ∧ (Jvm.Cond.and given_1 narrow_1).before args s = true
def lw_Q (_ : Array Value) (s : State) (o : Outcome) (t : State) : Prop := o = .returned (some (.int 1)) ∧ Framed s o t [] 603072 7194730
def lw_Z (below : List Frame) (a : Array Value) (s : State) : State → Prop := fun t => ∃ o, t.status = .running ∧ Ended t below o ∧ lw_Q a s o t
/-- the law's own end, with 1 on the stack, nothing written that was there before, its room as the claim has it -/
theorem lw_ret {p : Program} {l : Launch} {e : Env} {s : State} {m : MethodId} {below : List Frame} {meth : Method} {c : Code} {b : Nat} (hx : p.tables.exec = Jvm.exec) (hb : c.code = code) (hr : meth.sig.returnType = ret) (hlocks : meth.locks = false) {pc : Nat} {H : Heap} {ls : Array Slot} (hdg : decode code pc = .ok (.ireturn, 1)) : W p l e room_1 s m #[Value.ref b] below meth c H [] 603072 7194730 (lw_Z below #[Value.ref b] s) (F0 m pc ls [.int 1]) := by
  intro T hT X
  obtain ⟨fs, hret, hrun, hended, hW, hframe⟩ := X.leave (v := some (.int 1)) (hlocks := hlocks) (fun h => by rw [hr] at h; cases h)
  have hmeth' : T.vm.method? m = some meth := X.method'
  refine ⟨T.setFrames fs, ?_, .returned (some (.int 1)), hrun, hended, rfl, ⟨_, rfl⟩, hW, hframe⟩
  jvm_step X.here [X.here.top, hx, hb, hdg, hmeth', hr, ret, narrow_b1]
  (try refine ⟨rfl, ?_⟩); (try refine ⟨rfl, ?_⟩)
  first | (intro acts; rw [hret _ acts rfl rfl rfl]) | rw [hret _ _ rfl rfl rfl]
  exact Steps.refl _
/-- what holds at the law's entry: the machine, the code, the tables' words (any of lw_tbl by 'hts w (by decide +kernel)'), the script of L ints xs at the cell b, what the Statement gives of the start (any of its parts by flat_of_before) -/
def lw_At (p : Program) (s : State) (m : MethodId) (meth : Method) (c : Code) (b L : Nat) (xs : Nat → Int32) : Prop :=
  p.tables.exec = Jvm.exec ∧ c.code = code ∧ meth.sig.returnType = ret ∧ c.maxLocals = 10 ∧ s.vm.findClass R_law = some m.cls ∧ (∀ w ∈ lw_tbl, w.before #[Value.ref b] s = true) ∧ va_X b L xs s s.heap ∧ b < s.heap.size ∧ meth.locks = false ∧ (Jvm.Cond.and given_1 narrow_1).before #[Value.ref b] s = true
set_option maxHeartbeats 4000000 in
set_option maxRecDepth 100000 in
/-- the law's loop -/
theorem law_loop (l : Launch) {p : Program} {e : Env} {s : State} {m : MethodId} {args : Array Value} {below : List Frame} {meth : Method} {cd : Code} {G : GG} {A : Nat → Prop} {b0 L : Nat} {xs : Nat → Int32} {Q : State → Prop} (C : LC p l s m args cd G A b0 L xs) (c : CA) (mc : MAd) (oh dh : Nat) (hE : ∀ (i : Nat) (H : Heap) (locs : List Loc) (ls : Array Slot), i ≤ L → va_S A s.heap H locs → W p l e room_1 s m args below meth cd H locs (1000 + 75 * i) (20000 + 2375 * i) Q (F0 m 2164 ls [])) :
    ∀ (f i : Nat), L < i + f → i ≤ L → ∀ (a b : AS) (j : CJ) (k : MJ) (th : Int32) (v : Int64) (dv : UInt64), SS a b → okC a j → okM b k → ∀ (H : Heap) (locs : List Loc) (ls : Array Slot), va_P G.1 CL (LAW G oh v ++ DAW G dh dv ++ MAW G mc b k th ++ CBW G c a j) H → va_D A (LAW G oh v ++ DAW G dh dv ++ MAW G mc b k th ++ CBW G c a j) → va_S A s.heap H locs → lv_has ls 10 [(0, .ref b0), (1, .ref c.1.1), (2, .ref mc.1), (3, .ref oh), (4, .ref dh), (5, .int (nI i))] → W p l e room_1 s m args below meth cd H locs (1000 + 75 * i) (20000 + 2375 * i) Q (F0 m 28 ls []) := by
  obtain ⟨hx, hb, hml, hown, hts, hA, hK, hZ, hIC, hst, hX, hbl, hbA, hL⟩ := id C
  intro f
  induction f with
  | zero => intro i h1 h2; exact absurd h1 (by omega)
  | succ f ih =>
    intro i hf hiL a b j k th v dv hq hoC hoM H locs ls hP hD hS hl
    refine lv_iload hx hb dL_law_28 (lv_at hl 5 rfl) ?_
    refine lv_aload_n hx hb dL_law_30 rfl (lv_at hl 0 rfl) ?_
    refine va_slen hx hb hX hbl hbA hS dL_law_31 ?_
    refine lv_iconst (v := nI 4) hx hb dL_law_32 (by decide) ?_
    refine lv_isub hx hb dL_law_33 ?_
    have he : (nI L - nI 4).toInt = (L : Int) - 4 := pk_sub_toInt (show L < 2 ^ 30 by omega) (show 4 < 2 ^ 30 by decide)
    refine lv_icmp_gt (tgt := 2164) hx hb dL_law_34 (by decide) (fun c34 => ?_) (fun c34 => ?_)
    · exact hE i H locs ls hiL hS
    · have hi : i + 4 ≤ L := by
        rcases Nat.lt_or_ge L (i + 4) with q | q
        · refine absurd ?_ c34
          show nI L - nI 4 < nI i
          rw [Int32.lt_iff_toInt_lt, he, nI_toInt (by omega)]; omega
        · exact q
      have jn : LJ p l e s m args below meth cd G A b0 Q c mc oh dh i (1000 + 75 * i) (20000 + 2375 * i) := by
        intro a1 b1 j1 k1 th1 v1 dv1 h1 h2 h3 H locs ls hP hD hS hl
        refine lv_iinc (v := nI (i + 4)) (lv' := [(5, .int (nI (i + 4))), (0, .ref b0), (1, .ref c.1.1), (2, .ref mc.1), (3, .ref oh), (4, .ref dh)]) hx hb dL_law_2158 hl (k := 5) rfl (nI_add _ _) (by decide) rfl (fun ls hl => ?_)
        refine lv_goto (tgt := 28) hx hb dL_law_2161 (by decide) ?_
        refine W.widen (k := 1000 + 75 * (i + 4)) (n := 20000 + 2375 * (i + 4)) (by omega) (by omega) ?_
        exact ih (i + 4) (by omega) hi a1 b1 j1 k1 th1 v1 dv1 h1 h2 h3 H locs ls hP hD hS (lv_sub hl [1, 2, 3, 4, 5, 0] rfl)
      refine lv_aload_n hx hb dL_law_37 rfl (lv_at hl 0 rfl) ?_
      refine lv_iload hx hb dL_law_38 (lv_at hl 5 rfl) ?_
      refine n_sld (i := i) hx hb hX hbl hbA hS (by omega) hL dL_law_40 ?_
      refine lv_bipush (v := nI 63) hx hb dL_law_41 (by decide) ?_
      refine lv_iand hx hb dL_law_43 ?_
      by_cases k0 : (xs i &&& nI 63) = nI 0
      · refine lv_tableIn (off := 172) (tgt := 216) hx hb dL_law_44 (by rw [k0]; decide) (by rw [k0]; decide) (by rw [k0]; decide) (by decide) ?_
        exact cas_0 l C hi (by omega) (by omega) c mc oh dh a b j k th v dv hq hoC hoM jn H locs ls hP hD hS hl
      by_cases k1 : (xs i &&& nI 63) = nI 1
      · refine lv_tableIn (off := 240) (tgt := 284) hx hb dL_law_44 (by rw [k1]; decide) (by rw [k1]; decide) (by rw [k1]; decide) (by decide) ?_
        exact cas_1 l C hi (by omega) (by omega) c mc oh dh a b j k th v dv hq hoC hoM jn H locs ls hP hD hS hl
      by_cases k2 : (xs i &&& nI 63) = nI 2
      · refine lv_tableIn (off := 310) (tgt := 354) hx hb dL_law_44 (by rw [k2]; decide) (by rw [k2]; decide) (by rw [k2]; decide) (by decide) ?_
        exact cas_2 l C hi (by omega) (by omega) c mc oh dh a b j k th v dv hq hoC hoM jn H locs ls hP hD hS hl
      by_cases k3 : (xs i &&& nI 63) = nI 3
      · refine lv_tableIn (off := 380) (tgt := 424) hx hb dL_law_44 (by rw [k3]; decide) (by rw [k3]; decide) (by rw [k3]; decide) (by decide) ?_
        exact cas_3 l C hi (by omega) (by omega) c mc oh dh a b j k th v dv hq hoC hoM jn H locs ls hP hD hS hl
      by_cases k4 : (xs i &&& nI 63) = nI 4
      · refine lv_tableIn (off := 436) (tgt := 480) hx hb dL_law_44 (by rw [k4]; decide) (by rw [k4]; decide) (by rw [k4]; decide) (by decide) ?_
        exact cas_4 l C hi (by omega) (by omega) c mc oh dh a b j k th v dv hq hoC hoM jn H locs ls hP hD hS hl
      by_cases k5 : (xs i &&& nI 63) = nI 5
      · refine lv_tableIn (off := 504) (tgt := 548) hx hb dL_law_44 (by rw [k5]; decide) (by rw [k5]; decide) (by rw [k5]; decide) (by decide) ?_
        exact cas_5 l C hi (by omega) (by omega) c mc oh dh a b j k th v dv hq hoC hoM jn H locs ls hP hD hS hl
      by_cases k6 : (xs i &&& nI 63) = nI 6
      · refine lv_tableIn (off := 567) (tgt := 611) hx hb dL_law_44 (by rw [k6]; decide) (by rw [k6]; decide) (by rw [k6]; decide) (by decide) ?_
        exact cas_6 l C hi (by omega) (by omega) c mc oh dh a b j k th v dv hq hoC hoM jn H locs ls hP hD hS hl
      by_cases k7 : (xs i &&& nI 63) = nI 7
      · refine lv_tableIn (off := 635) (tgt := 679) hx hb dL_law_44 (by rw [k7]; decide) (by rw [k7]; decide) (by rw [k7]; decide) (by decide) ?_
        exact cas_7 l C hi (by omega) (by omega) c mc oh dh a b j k th v dv hq hoC hoM jn H locs ls hP hD hS hl
      by_cases k8 : (xs i &&& nI 63) = nI 8
      · refine lv_tableIn (off := 679) (tgt := 723) hx hb dL_law_44 (by rw [k8]; decide) (by rw [k8]; decide) (by rw [k8]; decide) (by decide) ?_
        exact cas_8 l C hi (by omega) (by omega) c mc oh dh a b j k th v dv hq hoC hoM jn H locs ls hP hD hS hl
      by_cases k9 : (xs i &&& nI 63) = nI 9
      · refine lv_tableIn (off := 735) (tgt := 779) hx hb dL_law_44 (by rw [k9]; decide) (by rw [k9]; decide) (by rw [k9]; decide) (by decide) ?_
        exact cas_9 l C hi (by omega) (by omega) c mc oh dh a b j k th v dv hq hoC hoM jn H locs ls hP hD hS hl
      by_cases k10 : (xs i &&& nI 63) = nI 10
      · refine lv_tableIn (off := 791) (tgt := 835) hx hb dL_law_44 (by rw [k10]; decide) (by rw [k10]; decide) (by rw [k10]; decide) (by decide) ?_
        exact cas_10 l C hi (by omega) (by omega) c mc oh dh a b j k th v dv hq hoC hoM jn H locs ls hP hD hS hl
      by_cases k11 : (xs i &&& nI 63) = nI 11
      · refine lv_tableIn (off := 854) (tgt := 898) hx hb dL_law_44 (by rw [k11]; decide) (by rw [k11]; decide) (by rw [k11]; decide) (by decide) ?_
        exact cas_11 l C hi (by omega) (by omega) c mc oh dh a b j k th v dv hq hoC hoM jn H locs ls hP hD hS hl
      by_cases k12 : (xs i &&& nI 63) = nI 12
      · refine lv_tableIn (off := 910) (tgt := 954) hx hb dL_law_44 (by rw [k12]; decide) (by rw [k12]; decide) (by rw [k12]; decide) (by decide) ?_
        exact cas_12 l C hi (by omega) (by omega) c mc oh dh a b j k th v dv hq hoC hoM jn H locs ls hP hD hS hl
      by_cases k13 : (xs i &&& nI 63) = nI 13
      · refine lv_tableIn (off := 982) (tgt := 1026) hx hb dL_law_44 (by rw [k13]; decide) (by rw [k13]; decide) (by rw [k13]; decide) (by decide) ?_
        exact cas_13 l C hi (by omega) (by omega) c mc oh dh a b j k th v dv hq hoC hoM jn H locs ls hP hD hS hl
      by_cases k14 : (xs i &&& nI 63) = nI 14
      · refine lv_tableIn (off := 1026) (tgt := 1070) hx hb dL_law_44 (by rw [k14]; decide) (by rw [k14]; decide) (by rw [k14]; decide) (by decide) ?_
        exact cas_14 l C hi (by omega) (by omega) c mc oh dh a b j k th v dv hq hoC hoM jn H locs ls hP hD hS hl
      by_cases k15 : (xs i &&& nI 63) = nI 15
      · refine lv_tableIn (off := 1039) (tgt := 1083) hx hb dL_law_44 (by rw [k15]; decide) (by rw [k15]; decide) (by rw [k15]; decide) (by decide) ?_
        exact cas_15 l C hi (by omega) (by omega) c mc oh dh a b j k th v dv hq hoC hoM jn H locs ls hP hD hS hl
      by_cases k16 : (xs i &&& nI 63) = nI 16
      · refine lv_tableIn (off := 1118) (tgt := 1162) hx hb dL_law_44 (by rw [k16]; decide) (by rw [k16]; decide) (by rw [k16]; decide) (by decide) ?_
        exact cas_16 l C hi (by omega) (by omega) c mc oh dh a b j k th v dv hq hoC hoM jn H locs ls hP hD hS hl
      by_cases k17 : (xs i &&& nI 63) = nI 17
      · refine lv_tableIn (off := 1131) (tgt := 1175) hx hb dL_law_44 (by rw [k17]; decide) (by rw [k17]; decide) (by rw [k17]; decide) (by decide) ?_
        exact cas_17 l C hi (by omega) (by omega) c mc oh dh a b j k th v dv hq hoC hoM jn H locs ls hP hD hS hl
      by_cases k18 : (xs i &&& nI 63) = nI 18
      · refine lv_tableIn (off := 1187) (tgt := 1231) hx hb dL_law_44 (by rw [k18]; decide) (by rw [k18]; decide) (by rw [k18]; decide) (by decide) ?_
        exact cas_18 l C hi (by omega) (by omega) c mc oh dh a b j k th v dv hq hoC hoM jn H locs ls hP hD hS hl
      by_cases k19 : (xs i &&& nI 63) = nI 19
      · refine lv_tableIn (off := 1231) (tgt := 1275) hx hb dL_law_44 (by rw [k19]; decide) (by rw [k19]; decide) (by rw [k19]; decide) (by decide) ?_
        exact cas_19 l C hi (by omega) (by omega) c mc oh dh a b j k th v dv hq hoC hoM jn H locs ls hP hD hS hl
      by_cases k20 : (xs i &&& nI 63) = nI 20
      · refine lv_tableIn (off := 1311) (tgt := 1355) hx hb dL_law_44 (by rw [k20]; decide) (by rw [k20]; decide) (by rw [k20]; decide) (by decide) ?_
        exact cas_20 l C hi (by omega) (by omega) c mc oh dh a b j k th v dv hq hoC hoM jn H locs ls hP hD hS hl
      by_cases k21 : (xs i &&& nI 63) = nI 21
      · refine lv_tableIn (off := 1379) (tgt := 1423) hx hb dL_law_44 (by rw [k21]; decide) (by rw [k21]; decide) (by rw [k21]; decide) (by decide) ?_
        exact cas_21 l C hi (by omega) (by omega) c mc oh dh a b j k th v dv hq hoC hoM jn H locs ls hP hD hS hl
      by_cases k22 : (xs i &&& nI 63) = nI 22
      · refine lv_tableIn (off := 1442) (tgt := 1486) hx hb dL_law_44 (by rw [k22]; decide) (by rw [k22]; decide) (by rw [k22]; decide) (by decide) ?_
        exact cas_22 l C hi (by omega) (by omega) c mc oh dh a b j k th v dv hq hoC hoM jn H locs ls hP hD hS hl
      by_cases k23 : (xs i &&& nI 63) = nI 23
      · refine lv_tableIn (off := 1455) (tgt := 1499) hx hb dL_law_44 (by rw [k23]; decide) (by rw [k23]; decide) (by rw [k23]; decide) (by decide) ?_
        exact cas_23 l C hi (by omega) (by omega) c mc oh dh a b j k th v dv hq hoC hoM jn H locs ls hP hD hS hl
      by_cases k24 : (xs i &&& nI 63) = nI 24
      · refine lv_tableIn (off := 1511) (tgt := 1555) hx hb dL_law_44 (by rw [k24]; decide) (by rw [k24]; decide) (by rw [k24]; decide) (by decide) ?_
        exact cas_24 l C hi (by omega) (by omega) c mc oh dh a b j k th v dv hq hoC hoM jn H locs ls hP hD hS hl
      by_cases k25 : (xs i &&& nI 63) = nI 25
      · refine lv_tableIn (off := 1524) (tgt := 1568) hx hb dL_law_44 (by rw [k25]; decide) (by rw [k25]; decide) (by rw [k25]; decide) (by decide) ?_
        exact cas_25 l C hi (by omega) (by omega) c mc oh dh a b j k th v dv hq hoC hoM jn H locs ls hP hD hS hl
      by_cases k26 : (xs i &&& nI 63) = nI 26
      · refine lv_tableIn (off := 1537) (tgt := 1581) hx hb dL_law_44 (by rw [k26]; decide) (by rw [k26]; decide) (by rw [k26]; decide) (by decide) ?_
        exact cas_26 l C hi (by omega) (by omega) c mc oh dh a b j k th v dv hq hoC hoM jn H locs ls hP hD hS hl
      by_cases k27 : (xs i &&& nI 63) = nI 27
      · refine lv_tableIn (off := 1593) (tgt := 1637) hx hb dL_law_44 (by rw [k27]; decide) (by rw [k27]; decide) (by rw [k27]; decide) (by decide) ?_
        exact cas_27 l C hi (by omega) (by omega) c mc oh dh a b j k th v dv hq hoC hoM jn H locs ls hP hD hS hl
      by_cases k28 : (xs i &&& nI 63) = nI 28
      · refine lv_tableIn (off := 1649) (tgt := 1693) hx hb dL_law_44 (by rw [k28]; decide) (by rw [k28]; decide) (by rw [k28]; decide) (by decide) ?_
        exact cas_28 l C hi (by omega) (by omega) c mc oh dh a b j k th v dv hq hoC hoM jn H locs ls hP hD hS hl
      by_cases k29 : (xs i &&& nI 63) = nI 29
      · refine lv_tableIn (off := 1707) (tgt := 1751) hx hb dL_law_44 (by rw [k29]; decide) (by rw [k29]; decide) (by rw [k29]; decide) (by decide) ?_
        exact cas_29 l C hi (by omega) (by omega) c mc oh dh a b j k th v dv hq hoC hoM jn H locs ls hP hD hS hl
      by_cases k30 : (xs i &&& nI 63) = nI 30
      · refine lv_tableIn (off := 1751) (tgt := 1795) hx hb dL_law_44 (by rw [k30]; decide) (by rw [k30]; decide) (by rw [k30]; decide) (by decide) ?_
        exact cas_30 l C hi (by omega) (by omega) c mc oh dh a b j k th v dv hq hoC hoM jn H locs ls hP hD hS hl
      by_cases k31 : (xs i &&& nI 63) = nI 31
      · refine lv_tableIn (off := 1764) (tgt := 1808) hx hb dL_law_44 (by rw [k31]; decide) (by rw [k31]; decide) (by rw [k31]; decide) (by decide) ?_
        exact cas_31 l C hi (by omega) (by omega) c mc oh dh a b j k th v dv hq hoC hoM jn H locs ls hP hD hS hl
      by_cases k32 : (xs i &&& nI 63) = nI 32
      · refine lv_tableIn (off := 1836) (tgt := 1880) hx hb dL_law_44 (by rw [k32]; decide) (by rw [k32]; decide) (by rw [k32]; decide) (by decide) ?_
        exact cas_32 l C hi (by omega) (by omega) c mc oh dh a b j k th v dv hq hoC hoM jn H locs ls hP hD hS hl
      by_cases k33 : (xs i &&& nI 63) = nI 33
      · refine lv_tableIn (off := 1892) (tgt := 1936) hx hb dL_law_44 (by rw [k33]; decide) (by rw [k33]; decide) (by rw [k33]; decide) (by decide) ?_
        exact cas_33 l C hi (by omega) (by omega) c mc oh dh a b j k th v dv hq hoC hoM jn H locs ls hP hD hS hl
      by_cases k34 : (xs i &&& nI 63) = nI 34
      · refine lv_tableIn (off := 1905) (tgt := 1949) hx hb dL_law_44 (by rw [k34]; decide) (by rw [k34]; decide) (by rw [k34]; decide) (by decide) ?_
        exact cas_34 l C hi (by omega) (by omega) c mc oh dh a b j k th v dv hq hoC hoM jn H locs ls hP hD hS hl
      by_cases k35 : (xs i &&& nI 63) = nI 35
      · refine lv_tableIn (off := 1970) (tgt := 2014) hx hb dL_law_44 (by rw [k35]; decide) (by rw [k35]; decide) (by rw [k35]; decide) (by decide) ?_
        exact cas_35 l C hi (by omega) (by omega) c mc oh dh a b j k th v dv hq hoC hoM jn H locs ls hP hD hS hl
      by_cases k36 : (xs i &&& nI 63) = nI 36
      · refine lv_tableIn (off := 2013) (tgt := 2057) hx hb dL_law_44 (by rw [k36]; decide) (by rw [k36]; decide) (by rw [k36]; decide) (by decide) ?_
        exact cas_36 l C hi (by omega) (by omega) c mc oh dh a b j k th v dv hq hoC hoM jn H locs ls hP hD hS hl
      by_cases k37 : (xs i &&& nI 63) = nI 37
      · refine lv_tableIn (off := 2057) (tgt := 2101) hx hb dL_law_44 (by rw [k37]; decide) (by rw [k37]; decide) (by rw [k37]; decide) (by decide) ?_
        exact cas_37 l C hi (by omega) (by omega) c mc oh dh a b j k th v dv hq hoC hoM jn H locs ls hP hD hS hl
      by_cases k38 : (xs i &&& nI 63) = nI 38
      · refine lv_tableIn (off := 2070) (tgt := 2114) hx hb dL_law_44 (by rw [k38]; decide) (by rw [k38]; decide) (by rw [k38]; decide) (by decide) ?_
        exact cas_38 l C hi (by omega) (by omega) c mc oh dh a b j k th v dv hq hoC hoM jn H locs ls hP hD hS hl
      refine lv_tableOut (tgt := 2158) hx hb dL_law_44 (by have := lv_neT k0 (show (nI 0 : Int32).toInt = 0 by decide); have := lv_neT k1 (show (nI 1 : Int32).toInt = 1 by decide); have := lv_neT k2 (show (nI 2 : Int32).toInt = 2 by decide); have := lv_neT k3 (show (nI 3 : Int32).toInt = 3 by decide); have := lv_neT k4 (show (nI 4 : Int32).toInt = 4 by decide); have := lv_neT k5 (show (nI 5 : Int32).toInt = 5 by decide); have := lv_neT k6 (show (nI 6 : Int32).toInt = 6 by decide); have := lv_neT k7 (show (nI 7 : Int32).toInt = 7 by decide); have := lv_neT k8 (show (nI 8 : Int32).toInt = 8 by decide); have := lv_neT k9 (show (nI 9 : Int32).toInt = 9 by decide); have := lv_neT k10 (show (nI 10 : Int32).toInt = 10 by decide); have := lv_neT k11 (show (nI 11 : Int32).toInt = 11 by decide); have := lv_neT k12 (show (nI 12 : Int32).toInt = 12 by decide); have := lv_neT k13 (show (nI 13 : Int32).toInt = 13 by decide); have := lv_neT k14 (show (nI 14 : Int32).toInt = 14 by decide); have := lv_neT k15 (show (nI 15 : Int32).toInt = 15 by decide); have := lv_neT k16 (show (nI 16 : Int32).toInt = 16 by decide); have := lv_neT k17 (show (nI 17 : Int32).toInt = 17 by decide); have := lv_neT k18 (show (nI 18 : Int32).toInt = 18 by decide); have := lv_neT k19 (show (nI 19 : Int32).toInt = 19 by decide); have := lv_neT k20 (show (nI 20 : Int32).toInt = 20 by decide); have := lv_neT k21 (show (nI 21 : Int32).toInt = 21 by decide); have := lv_neT k22 (show (nI 22 : Int32).toInt = 22 by decide); have := lv_neT k23 (show (nI 23 : Int32).toInt = 23 by decide); have := lv_neT k24 (show (nI 24 : Int32).toInt = 24 by decide); have := lv_neT k25 (show (nI 25 : Int32).toInt = 25 by decide); have := lv_neT k26 (show (nI 26 : Int32).toInt = 26 by decide); have := lv_neT k27 (show (nI 27 : Int32).toInt = 27 by decide); have := lv_neT k28 (show (nI 28 : Int32).toInt = 28 by decide); have := lv_neT k29 (show (nI 29 : Int32).toInt = 29 by decide); have := lv_neT k30 (show (nI 30 : Int32).toInt = 30 by decide); have := lv_neT k31 (show (nI 31 : Int32).toInt = 31 by decide); have := lv_neT k32 (show (nI 32 : Int32).toInt = 32 by decide); have := lv_neT k33 (show (nI 33 : Int32).toInt = 33 by decide); have := lv_neT k34 (show (nI 34 : Int32).toInt = 34 by decide); have := lv_neT k35 (show (nI 35 : Int32).toInt = 35 by decide); have := lv_neT k36 (show (nI 36 : Int32).toInt = 36 by decide); have := lv_neT k37 (show (nI 37 : Int32).toInt = 37 by decide); have := lv_neT k38 (show (nI 38 : Int32).toInt = 38 by decide); omega) (by decide) ?_
      refine W.widen (k := 1000 + 75 * i + 300) (n := 20000 + 2375 * i + 9500) (by omega) (by omega) ?_
      exact jn a b j k th v dv hq hoC hoM H locs ls hP hD hS hl
