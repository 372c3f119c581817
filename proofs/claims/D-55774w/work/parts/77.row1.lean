/-! ===== rows of lines ===== -/
abbrev RWW (G : GG) (h dq : Nat) : va_W := [(h, .inr (6, [.ref dq]))]
/-- the boxes of the numbers below n -/
def bxs (G : GG) (n : Nat) : List Nat := (List.range n).map (fun k => icA G (k + 128))
theorem bxs_len (G : GG) (n : Nat) : (bxs G n).length = n := by simp [bxs]
theorem bxs_get (G : GG) {n i : Nat} (h : i < n) : (bxs G n).getD i 0 = icA G (i + 128) := by
  simp [bxs, List.getD_eq_getElem?_getD, h]
theorem bxs_succ (G : GG) (n : Nat) : bxs G (n + 1) = bxs G n ++ [icA G (n + 128)] := by
  simp [bxs, List.range_succ]
theorem sb_gt {a b : Nat} (ha : a < 1000) (hb : b < 1000) : (0 : Int32) < nI a - nI b ↔ b < a := by
  rw [Int32.lt_iff_toInt_lt, pk_sub_toInt (by omega) (by omega)]
  show (0 : Int) < _ ↔ _
  omega
theorem sb_eq {a b : Nat} (ha : a < 1000) (hb : b < 1000) : nI a - nI b = 0 ↔ a = b := by
  rw [← Int32.toInt_inj, pk_sub_toInt (by omega) (by omega)]
  show _ = (0 : Int) ↔ _
  omega
set_option maxHeartbeats 4000000 in
set_option maxRecDepth 100000 in
theorem m_X7_init (l : Launch) (G : GG) (wh : Nat)  : MM l G yX7_init cX7_init 1 none ⟨3, 2, 20, 52⟩ [.ref wh] (OX7W G wh .null) (Qv_ G (fun (u : (Nat) × (DQZ)) => DQh u.2 []) (fun (u : (Nat) × (DQZ)) => (RWW G wh u.1 ++ DQB G u.1 u.2))) := by
  refine MM.of (by decide) (Nat.le_of_ble_eq_true rfl) ?_
  intro p e s m args below meth cd A C hini hA hK hZ hP hD ls hl
  generalize hQ : MQ below ((Qv_ G (fun (u : (Nat) × (DQZ)) => DQh u.2 []) (fun (u : (Nat) × (DQZ)) => (RWW G wh u.1 ++ DQB G u.1 u.2))) A) args s (⟨3, 2, 20, 52⟩ : Room).cells (⟨3, 2, 20, 52⟩ : Room).slots A = Q
  obtain ⟨hx, hb, hr, hts, hown, hlk, hml⟩ := C
  have hown : s.vm.findClass RX7 = some m.cls := hown
  have hS : va_S A s.heap s.heap [] := va_S.rf
  have hl : lv_has ls 1 [(0, .ref wh)] := hl
  refine lv_aload_n hx hb dX7_init_0 rfl (lv_at hl 0 rfl) ?_
  refine W.objInit hx hb hown (hts _ q533) (hts _ q129) (hts _ q130) rfl (by rw [hml]; exact hl.1) rfl dX7_init_1 (Nat.le_of_ble_eq_true rfl) (Nat.le_of_ble_eq_true rfl) ?_
  refine W.eq (g2 := F0 m 4 ls []) rfl ?_
  refine lv_aload_n hx hb dX7_init_4 rfl (lv_at hl 0 rfl) ?_
  refine va_new (own := RX7) (C := RJ1) (T := TJ1) (N := 3) (ci := 8) (index := 7) hx hb hts in_J1 tyJ1 tyJ1_ok hown (hts _ q534) (hts _ q205) (hts _ q92) hK hP hD hS hA rfl (fs := [.null, (.int (nI 0)), (.int (nI 0))]) (fun j hj => by rcases (show j = 0 ∨ j = 1 ∨ j = 2 by omega) with rfl | rfl | rfl <;> rfl) (Nat.le_of_ble_eq_true rfl) (Nat.le_of_ble_eq_true rfl) dX7_init_5 (fun q1 H hP hD hS => ?_)
  refine W.widen (k := 1) (n := 3) (Nat.le_refl _) (Nat.le_refl _) ?_
  have hP : va_P G.1 CL (OX7W G wh .null ++ OJ1W G q1 .null (.int (nI 0)) (.int (nI 0))) _ := hP
  have hD : va_D A (OX7W G wh .null ++ OJ1W G q1 .null (.int (nI 0)) (.int (nI 0))) := hD
  refine lv_dup hx hb dX7_init_8 rfl ?_
  refine callIv (As := []) (rest := [.ref q1, .ref wh]) (wc := (OJ1W G q1 .null (.int (nI 0)) (.int (nI 0)))) (wr := (OX7W G wh .null)) ⟨hx, hb, hml, hown, hts⟩ (m_J1_init l G q1 ) (cwI 0 hts (lw_meth q208) rfl rfl rfl (hts _ q92) (hts _ q535) (hts _ q207) rfl (by decide +kernel) ⟨Nat.le_of_ble_eq_true rfl, Nat.le_of_ble_eq_true rfl⟩) hK hZ hA hP hD hS [1] [0] rfl rfl (by decide) (by decide) (by decide) rfl hl.1 (Nat.le_of_ble_eq_true rfl) ⟨Nat.le_of_ble_eq_true rfl, Nat.le_of_ble_eq_true rfl⟩ rfl dX7_init_9 (fun u9 H locs hw9 hP hD hS => ?_)
  refine W.widen (k := 2) (n := 20) (Nat.le_refl _) (Nat.le_refl _) ?_
  obtain ⟨z2_2, e9⟩ : ∃ z, z = u9 := ⟨_, rfl⟩
  subst e9
  have hw9 : DQh z2_2 [] := hw9
  have hP : va_P G.1 CL (OX7W G wh .null ++ DQB G q1 z2_2) _ := hP
  have hD : va_D A (OX7W G wh .null ++ DQB G q1 z2_2) := hD
  refine va_putF (D := G.1) (ci := 6) (v := (.ref q1)) (C := RX7) (T := TX7) (N := 1) hx hb hts in_X7 tyX7 tyX7_ok nmX7 hown hK hP hD hS 0 rfl rfl 0 (by decide) (hts _ q536) (fun _ h9 => h9) rfl (hini rfl) rfl (tyX7_ok 0 (by decide)) rfl rfl (Nat.le_of_ble_eq_true rfl) dX7_init_12 (fun H locs hP hD hS => ?_)
  have hP : va_P G.1 CL (OX7W G wh (.ref q1) ++ DQB G q1 z2_2) _ := hP
  have hD : va_D A (OX7W G wh (.ref q1) ++ DQB G q1 z2_2) := hD
  have hP : va_P G.1 CL (RWW G wh q1 ++ DQB G q1 z2_2) _ := hP
  have hD : va_D A (RWW G wh q1 ++ DQB G q1 z2_2) := hD
  subst hQ
  exact ret_v hx hb hr hlk (⟨q1, z2_2⟩) hw9 hP hD hS dX7_init_15
set_option maxHeartbeats 4000000 in
set_option maxRecDepth 100000 in
theorem m_X7_with (l : Launch) (G : GG) (wh : Nat) (dh : Nat) (dz : DQZ) (xs : List Nat) (k : Nat) (hz : DQh dz xs) (hn : xs.length < 16) (hIC : ICok G) (hk : k < 128) : MM l G yX7_with cX7_with 2 (some (.object "VowelTorus$Row")) ⟨2, 0, 0, 43⟩ [.ref wh, .ref (icA G (k + 128))] (RWW G wh dh ++ DQB G dh dz) (Qr_ G (fun (r : Nat) (u : (DQZ)) => (r = wh) ∧ (DQh u (xs ++ [icA G (k + 128)]))) (fun (r : Nat) (u : (DQZ)) => (RWW G wh dh ++ DQB G dh u))) := by
  refine MM.of (by decide) (Nat.le_of_ble_eq_true rfl) ?_
  intro p e s m args below meth cd A C hini hA hK hZ hP hD ls hl
  generalize hQ : MQ below ((Qr_ G (fun (r : Nat) (u : (DQZ)) => (r = wh) ∧ (DQh u (xs ++ [icA G (k + 128)]))) (fun (r : Nat) (u : (DQZ)) => (RWW G wh dh ++ DQB G dh u))) A) args s (⟨2, 0, 0, 43⟩ : Room).cells (⟨2, 0, 0, 43⟩ : Room).slots A = Q
  obtain ⟨hx, hb, hr, hts, hown, hlk, hml⟩ := C
  have hown : s.vm.findClass RX7 = some m.cls := hown
  have hS : va_S A s.heap s.heap [] := va_S.rf
  have hl : lv_has ls 2 [(0, .ref wh), (1, .ref (icA G (k + 128)))] := hl
  refine lv_aload_n hx hb dX7_with_0 rfl (lv_at hl 0 rfl) ?_
  refine va_get (D := G.1) (ci := 6) (v := .ref dh) (C := RX7) (T := TX7) (N := 1) hx hb hts in_X7 hown hK hP 0 rfl rfl 0 (by decide) (hts _ q536) (fun _ h9 => h9) rfl dX7_with_1 ?_
  refine lv_aload_n hx hb dX7_with_4 rfl (lv_at hl 1 rfl) ?_
  refine callVv (As := [.ref (icA G (k + 128))]) (rest := []) (wc := (DQB G dh dz)) (wr := (RWW G wh dh)) ⟨hx, hb, hml, hown, hts⟩ (m_J1_addLast__I l G dh dz xs (k + 128) (by first | assumption | omega) (by first | assumption | omega) (by first | assumption | omega) (by omega)) (cwV 1 hts (lw_V q568 q298 q299 q92 q300) rfl rfl rfl (by decide +kernel) ⟨Nat.le_of_ble_eq_true rfl, Nat.le_of_ble_eq_true rfl⟩) hK hZ hA hP hD hS [1, 2] [0] rfl rfl (by decide) (by decide) (by decide) 0 8 rfl rfl rfl hl.1 (Nat.le_of_ble_eq_true rfl) ⟨Nat.le_of_ble_eq_true rfl, Nat.le_of_ble_eq_true rfl⟩ rfl dX7_with_5 (fun u9 H locs hw9 hP hD hS => ?_)
  obtain ⟨z2_1, e9⟩ : ∃ z, z = u9 := ⟨_, rfl⟩
  subst e9
  have hw5 : DQh z2_1 (xs ++ [icA G (k + 128)]) := hw9
  have hP : va_P G.1 CL (RWW G wh dh ++ DQB G dh z2_1) _ := hP
  have hD : va_D A (RWW G wh dh ++ DQB G dh z2_1) := hD
  refine lv_aload_n hx hb dX7_with_8 rfl (lv_at hl 0 rfl) ?_
  subst hQ
  exact ret_r hx hb hr (Or.inl ⟨_, rfl⟩) hlk z2_1 ⟨rfl, hw5⟩ hP hD hS dX7_with_9
set_option maxHeartbeats 4000000 in
set_option maxRecDepth 100000 in
theorem m_X7_count__1 (l : Launch) (G : GG) (wh : Nat) (dh : Nat) (dz : DQZ) (mh9 : Nat) (cK : Nat) (vh : Nat) (ph : Nat) (th : Nat) (svh : Nat) (hs9 : Bool) (ah : Nat) (bh : Nat) (lh : Nat) (rh : Nat) (fa9 : Int32) (rf9 : Int32) (de9 : Int32) (pd : Nat → Nat) (nr : Nat) (nc : Nat) (pL : Nat → Nat) (pG : Nat → Nat) (pB : Nat → Bool) (pk : Nat → Int32) (pa : Nat → Nat) (pt : Nat → Nat) (pm : Nat) (hd : 2 ≤ nr ∧ nr ≤ 3 ∧ 2 ≤ nc ∧ nc ≤ 3) (hL : ∀ i, pL i < 65536) (hz : DQh dz (bxs G (nr + nc))) (hIC : ICok G) (hcK : LamG G yX1_singing 5 273 sh1 cK) : MM l G yX7_count cX7_count 5 (some .int) ⟨5, 1, 4, 111⟩ [.ref wh, .ref mh9] (RWW G wh dh ++ DQB G dh dz ++ LMW G mh9 cK vh ++ VTW G vh ph th svh hs9 ah bh lh rh fa9 rf9 de9 ++ PW G ph pd nr nc pL pG pB pk pa pt pm) (Qi_ G (fun (r : Int32) (_ : Unit) => r = nI (cn (fun k => snN nr nc pL k) (nr + nc))) (fun (_ : Unit) => (RWW G wh dh ++ DQB G dh dz ++ LMW G mh9 cK vh ++ VTW G vh ph th svh hs9 ah bh lh rh fa9 rf9 de9 ++ PW G ph pd nr nc pL pG pB pk pa pt pm))) := by
  refine MM.of (by decide) (Nat.le_of_ble_eq_true rfl) ?_
  intro p e s m args below meth cd A C hini hA hK hZ hP hD ls hl
  generalize hQ : MQ below ((Qi_ G (fun (r : Int32) (_ : Unit) => r = nI (cn (fun k => snN nr nc pL k) (nr + nc))) (fun (_ : Unit) => (RWW G wh dh ++ DQB G dh dz ++ LMW G mh9 cK vh ++ VTW G vh ph th svh hs9 ah bh lh rh fa9 rf9 de9 ++ PW G ph pd nr nc pL pG pB pk pa pt pm))) A) args s (⟨5, 1, 4, 111⟩ : Room).cells (⟨5, 1, 4, 111⟩ : Room).slots A = Q
  obtain ⟨hx, hb, hr, hts, hown, hlk, hml⟩ := C
  have hown : s.vm.findClass RX7 = some m.cls := hown
  have hS : va_S A s.heap s.heap [] := va_S.rf
  have hl : lv_has ls 5 [(0, .ref wh), (1, .ref mh9)] := hl
  have hmu := dm_mul hd
  refine lv_iconst (v := nI 0) hx hb dX7_count_0 (by decide) ?_
  refine lv_istore_n (lv' := [(2, .int (nI 0)), (0, .ref wh), (1, .ref mh9)]) hx hb dX7_count_1 rfl hl (by decide) rfl (fun ls hl => ?_)
  refine lv_aload_n hx hb dX7_count_2 rfl (lv_at hl 1 rfl) ?_
  refine va_get (D := G.1) (ci := 6) (v := .ref dh) (C := RX7) (T := TX7) (N := 1) hx hb hts in_X7 hown hK hP 0 rfl rfl 0 (by decide) (hts _ q536) (fun _ h9 => h9) rfl dX7_count_3 ?_
  refine callVr (As := []) (rest := []) (wc := (DQB G dh dz)) (wr := (RWW G wh dh ++ LMW G mh9 cK vh ++ VTW G vh ph th svh hs9 ah bh lh rh fa9 rf9 de9 ++ PW G ph pd nr nc pL pG pB pk pa pt pm)) ⟨hx, hb, hml, hown, hts⟩ (m_J1_iterator l G dh dz (bxs G (nr + nc)) (by first | assumption | omega)) (cwV 0 hts (lw_V q599 q600 q601 q92 q602) rfl rfl rfl (by decide +kernel) ⟨Nat.le_of_ble_eq_true rfl, Nat.le_of_ble_eq_true rfl⟩) hK hZ hA hP hD hS [1, 2] [0, 3, 4, 5, 6, 7, 8, 9, 10] rfl rfl (by decide) (by decide) (by decide) 0 8 rfl rfl rfl hl.1 (Nat.le_of_ble_eq_true rfl) ⟨Nat.le_of_ble_eq_true rfl, Nat.le_of_ble_eq_true rfl⟩ rfl dX7_count_6 (fun r9 u9 H locs hw9 hP hD hS => ?_)
  refine W.widen (k := 1) (n := 4) (Nat.le_refl _) (Nat.le_refl _) ?_
  obtain ⟨r_1, e8⟩ : ∃ z, z = r9 := ⟨_, rfl⟩
  subst e8
  obtain ⟨hP, hD⟩ := re_PD (w := (RWW G wh dh ++ DQB G dh dz ++ LMW G mh9 cK vh ++ VTW G vh ph th svh hs9 ah bh lh rh fa9 rf9 de9 ++ PW G ph pd nr nc pL pG pB pk pa pt pm ++ ITW G r_1 dh ((dz.2.1 + 0) % 17) ((bxs G (nr + nc)).length - 0) (-1))) hP hD [0, 9, 10, 1, 2, 3, 4, 5, 6, 7, 8, 11] (by decide) rfl
  refine lv_astore_n (lv' := [(3, .ref r_1), (2, .int (nI 0)), (0, .ref wh), (1, .ref mh9)]) hx hb dX7_count_9 rfl hl (by decide) rfl (fun ls hl => ?_)
  have lp10 : ∀ (f : Nat) (i : Nat) (n : Nat) (la : Int32), nr + nc - i < f → (i ≤ nr + nc) → (n = cn (fun k => snN nr nc pL k) i) → ∀ (H : Heap) (locs : List Loc) (ls : Array Slot), va_P G.1 CL (RWW G wh dh ++ DQB G dh dz ++ LMW G mh9 cK vh ++ VTW G vh ph th svh hs9 ah bh lh rh fa9 rf9 de9 ++ PW G ph pd nr nc pL pG pB pk pa pt pm ++ ITW G r_1 dh ((dz.2.1 + i) % 17) ((bxs G (nr + nc)).length - i) la) H → va_D A (RWW G wh dh ++ DQB G dh dz ++ LMW G mh9 cK vh ++ VTW G vh ph th svh hs9 ah bh lh rh fa9 rf9 de9 ++ PW G ph pd nr nc pL pG pB pk pa pt pm ++ ITW G r_1 dh ((dz.2.1 + i) % 17) ((bxs G (nr + nc)).length - i) la) → va_S A s.heap H locs → lv_has ls 5 [(0, .ref wh), (1, .ref mh9), (3, .ref r_1), (2, .int (nI n))] → W p l e (⟨5, 1, 4, 111⟩ : Room) s m args below meth cd H locs 1 4 Q (F0 m 10 ls []) := by
    intro f
    induction f with
    | zero => intro i n la hf; exact absurd hf (Nat.not_lt_zero _)
    | succ f ih10 =>
      intro i n la hf hi8 hn H locs ls hP hD hS hl
      refine lv_aload_n hx hb dX7_count_10 rfl (lv_at hl 2 rfl) ?_
      refine callFi (As := []) (rest := []) (wc := (ITW G r_1 dh ((dz.2.1 + i) % 17) ((bxs G (nr + nc)).length - i) la)) (wr := (RWW G wh dh ++ DQB G dh dz ++ LMW G mh9 cK vh ++ VTW G vh ph th svh hs9 ah bh lh rh fa9 rf9 de9 ++ PW G ph pd nr nc pL pG pB pk pa pt pm)) ⟨hx, hb, hml, hown, hts⟩ (m_J19_hasNext l G r_1 dh ((dz.2.1 + i) % 17) ((bxs G (nr + nc)).length - i) la (by rw [bxs_len]; omega)) (va_cwF 0 hts (lw_F q630 q634 q636 q116 q638) rfl rfl rfl (hZ.fw (by decide) q632 q631 q637 q635 q633) (by decide +kernel) ⟨Nat.le_of_ble_eq_true rfl, Nat.le_of_ble_eq_true rfl⟩) hK hZ hA hP hD hS [11] [0, 1, 2, 3, 4, 5, 6, 7, 8, 9, 10] rfl rfl (by decide) (by decide) (by decide) 0 10 rfl rfl rfl hl.1 (Nat.le_of_ble_eq_true rfl) ⟨Nat.le_of_ble_eq_true rfl, Nat.le_of_ble_eq_true rfl⟩ rfl dX7_count_11 (fun r9 u9 H locs hw9 hP hD hS => ?_)
      subst hw9
      have hP : va_P G.1 CL (RWW G wh dh ++ DQB G dh dz ++ LMW G mh9 cK vh ++ VTW G vh ph th svh hs9 ah bh lh rh fa9 rf9 de9 ++ PW G ph pd nr nc pL pG pB pk pa pt pm ++ ITW G r_1 dh ((dz.2.1 + i) % 17) ((bxs G (nr + nc)).length - i) la) _ := hP
      have hD : va_D A (RWW G wh dh ++ DQB G dh dz ++ LMW G mh9 cK vh ++ VTW G vh ph th svh hs9 ah bh lh rh fa9 rf9 de9 ++ PW G ph pd nr nc pL pG pB pk pa pt pm ++ ITW G r_1 dh ((dz.2.1 + i) % 17) ((bxs G (nr + nc)).length - i) la) := hD
      refine b_if_eq (tgt := 49) hx hb dX7_count_16 (by decide) (fun c16 => ?_) (fun c16 => ?_)
      · skip
        refine lv_iload_n hx hb dX7_count_49 rfl (lv_at hl 3 rfl) ?_
        obtain ⟨hP, hD⟩ := re_PD (w := (RWW G wh dh ++ DQB G dh dz ++ LMW G mh9 cK vh ++ VTW G vh ph th svh hs9 ah bh lh rh fa9 rf9 de9 ++ PW G ph pd nr nc pL pG pB pk pa pt pm)) hP hD [0, 1, 2, 3, 4, 5, 6, 7, 8, 9, 10] (by decide) rfl
        subst hQ
        exact ret_i hx hb hr hlk () (by rw [hn, show i = nr + nc by (have h := of_decide_eq_false c16; rw [bxs_len] at h; omega)]) hP hD hS rfl dX7_count_50
      · skip
        have hi9 : i < nr + nc := by have h := of_decide_eq_true c16; rw [bxs_len] at h; omega
        refine lv_aload_n hx hb dX7_count_19 rfl (lv_at hl 2 rfl) ?_
        refine callFr (As := []) (rest := []) (wc := (ITW G r_1 dh ((dz.2.1 + i) % 17) ((bxs G (nr + nc)).length - i) la ++ DQB G dh dz)) (wr := (RWW G wh dh ++ LMW G mh9 cK vh ++ VTW G vh ph th svh hs9 ah bh lh rh fa9 rf9 de9 ++ PW G ph pd nr nc pL pG pB pk pa pt pm)) ⟨hx, hb, hml, hown, hts⟩ (m_J19_next l G r_1 dh la dz (bxs G (nr + nc)) i (by first | assumption | omega) (by rw [bxs_len]; exact hi9)) (va_cwF 0 hts (lw_F q640 q643 q645 q116 q647) rfl rfl rfl (hZ.fw (by decide) q642 q641 q646 q644 q633) (by decide +kernel) ⟨Nat.le_of_ble_eq_true rfl, Nat.le_of_ble_eq_true rfl⟩) hK hZ hA hP hD hS [11, 1, 2] [0, 3, 4, 5, 6, 7, 8, 9, 10] rfl rfl (by decide) (by decide) (by decide) 0 10 rfl rfl rfl hl.1 (Nat.le_of_ble_eq_true rfl) ⟨Nat.le_of_ble_eq_true rfl, Nat.le_of_ble_eq_true rfl⟩ rfl dX7_count_20 (fun r9 u9 H locs hw9 hP hD hS => ?_)
        obtain ⟨la2_3, e9⟩ : ∃ z, z = u9 := ⟨_, rfl⟩
        subst e9
        subst hw9
        obtain ⟨hP, hD⟩ := re_PD (w := (RWW G wh dh ++ DQB G dh dz ++ LMW G mh9 cK vh ++ VTW G vh ph th svh hs9 ah bh lh rh fa9 rf9 de9 ++ PW G ph pd nr nc pL pG pB pk pa pt pm ++ ITW G r_1 dh ((dz.2.1 + (i + 1)) % 17) ((bxs G (nr + nc)).length - (i + 1)) la2_3)) hP hD [0, 10, 11, 1, 2, 3, 4, 5, 6, 7, 8, 9] (by decide) rfl
        refine eq_r (y := (icA G (i + 128))) (bxs_get G hi9) ?_
        refine lv_astore (lv' := [(4, .ref (icA G (i + 128))), (0, .ref wh), (1, .ref mh9), (3, .ref r_1), (2, .int (nI n))]) hx hb dX7_count_25 hl (by decide) rfl (fun ls hl => ?_)
        refine lv_iload_n hx hb dX7_count_27 rfl (lv_at hl 4 rfl) ?_
        refine lv_aload_n hx hb dX7_count_28 rfl (lv_at hl 2 rfl) ?_
        refine lv_aload hx hb dX7_count_29 (lv_at hl 0 rfl) ?_
        refine callLV (rest := [.int (nI n)]) (wc := (VTW G vh ph th svh hs9 ah bh lh rh fa9 rf9 de9 ++ PW G ph pd nr nc pL pG pB pk pa pt pm)) (wr := (RWW G wh dh ++ DQB G dh dz ++ LMW G mh9 cK vh ++ ITW G r_1 dh ((dz.2.1 + (i + 1)) % 17) ((bxs G (nr + nc)).length - (i + 1)) la2_3)) (j := (i + 128)) ok1 rfl hcK ⟨hx, hb, hml, hown, hts⟩ (m_X1_lambda_singing_1 l G vh ph th svh hs9 ah bh lh rh fa9 rf9 de9 pd nr nc pL pG pB pk pa pt pm i (by first | assumption | omega) (by first | assumption | omega) (by first | assumption | omega) (by first | assumption | omega)) (by first | rfl | decide +kernel) (by first | rfl | decide +kernel) (by decide) (by decide +kernel) (by decide +kernel) q571 (hts _ q88) (hts _ q674) (va_Nw.use rfl (KS.nw hZ q676 rfl)) (hZ.face (by decide) q676 q675) hK hZ hA hP hD hS [4, 5, 6, 7, 8, 9, 10] [0, 1, 2, 3, 11] rfl rfl (by decide) (by decide) (by decide) (hts _ q570) (hts _ qs7) 0 0 rfl rfl rfl hIC (by omega) 3 rfl (fun r9 u9 h9 => by first | (subst h9; exact bI_nar _) | rfl) hl.1 (Nat.le_of_ble_eq_true rfl) ⟨Nat.le_of_ble_eq_true rfl, Nat.le_of_ble_eq_true rfl⟩ (Nat.le_of_ble_eq_true rfl) (Nat.le_of_ble_eq_true rfl) dX7_count_31 (fun r9 u9 H locs hw9 hP hD hS => ?_)
        subst hw9
        obtain ⟨hP, hD⟩ := re_PD (w := (RWW G wh dh ++ DQB G dh dz ++ LMW G mh9 cK vh ++ VTW G vh ph th svh hs9 ah bh lh rh fa9 rf9 de9 ++ PW G ph pd nr nc pL pG pB pk pa pt pm ++ ITW G r_1 dh ((dz.2.1 + (i + 1)) % 17) ((bxs G (nr + nc)).length - (i + 1)) la2_3)) hP hD [0, 1, 2, 3, 5, 6, 7, 8, 9, 10, 11, 4] (by decide) rfl
        refine b_if_eq (tgt := 43) hx hb dX7_count_36 (by decide) (fun c36 => ?_) (fun c36 => ?_)
        · skip
          refine lv_iconst (v := nI 0) hx hb dX7_count_43 (by decide) ?_
          refine n_iadd hx hb dX7_count_44 ?_
          refine lv_istore_n (lv' := [(2, .int (nI (n + 0))), (4, .ref (icA G (i + 128))), (0, .ref wh), (1, .ref mh9), (3, .ref r_1)]) hx hb dX7_count_45 rfl hl (by decide) rfl (fun ls hl => ?_)
          refine lv_goto (tgt := 10) hx hb dX7_count_46 (by decide) ?_
          exact ih10 (i + 1) (n + 0) la2_3 (by omega) (by omega) (hn ▸ cn_f (P := (fun k => snN nr nc pL k)) c36) _ _ _ hP hD hS (lv_sub hl [2, 3, 4, 0] rfl)
        · skip
          refine lv_iconst (v := nI 1) hx hb dX7_count_39 (by decide) ?_
          refine lv_goto (tgt := 44) hx hb dX7_count_40 (by decide) ?_
          refine n_iadd hx hb dX7_count_44 ?_
          refine lv_istore_n (lv' := [(2, .int (nI (n + 1))), (4, .ref (icA G (i + 128))), (0, .ref wh), (1, .ref mh9), (3, .ref r_1)]) hx hb dX7_count_45 rfl hl (by decide) rfl (fun ls hl => ?_)
          refine lv_goto (tgt := 10) hx hb dX7_count_46 (by decide) ?_
          exact ih10 (i + 1) (n + 1) la2_3 (by omega) (by omega) (hn ▸ cn_t (P := (fun k => snN nr nc pL k)) c36) _ _ _ hP hD hS (lv_sub hl [2, 3, 4, 0] rfl)
  exact lp10 _ 0 0 (-1) (Nat.lt_succ_self _) (by omega) rfl _ _ _ hP hD hS (lv_sub hl [2, 3, 0, 1] rfl)
set_option maxHeartbeats 4000000 in
set_option maxRecDepth 100000 in
theorem m_X7_count__2 (l : Launch) (G : GG) (wh : Nat) (dh : Nat) (dz : DQZ) (mh9 : Nat) (cK : Nat) (ph : Nat) (pd : Nat → Nat) (nr : Nat) (nc : Nat) (pL : Nat → Nat) (pG : Nat → Nat) (pB : Nat → Bool) (pk : Nat → Int32) (pa : Nat → Nat) (pt : Nat → Nat) (pm : Nat) (hd : 2 ≤ nr ∧ nr ≤ 3 ∧ 2 ≤ nc ∧ nc ≤ 3) (hz : DQh dz (bxs G (nr + nc))) (hIC : ICok G) (hcK : LamG G yX1_boardOf 77 215 sh2 cK) : MM l G yX7_count cX7_count 5 (some .int) ⟨4, 1, 4, 83⟩ [.ref wh, .ref mh9] (RWW G wh dh ++ DQB G dh dz ++ LMW G mh9 cK ph ++ PW G ph pd nr nc pL pG pB pk pa pt pm) (Qi_ G (fun (r : Int32) (_ : Unit) => r = nI (cn (fun k => !pB k) (nr + nc))) (fun (_ : Unit) => (RWW G wh dh ++ DQB G dh dz ++ LMW G mh9 cK ph ++ PW G ph pd nr nc pL pG pB pk pa pt pm))) := by
  refine MM.of (by decide) (Nat.le_of_ble_eq_true rfl) ?_
  intro p e s m args below meth cd A C hini hA hK hZ hP hD ls hl
  generalize hQ : MQ below ((Qi_ G (fun (r : Int32) (_ : Unit) => r = nI (cn (fun k => !pB k) (nr + nc))) (fun (_ : Unit) => (RWW G wh dh ++ DQB G dh dz ++ LMW G mh9 cK ph ++ PW G ph pd nr nc pL pG pB pk pa pt pm))) A) args s (⟨4, 1, 4, 83⟩ : Room).cells (⟨4, 1, 4, 83⟩ : Room).slots A = Q
  obtain ⟨hx, hb, hr, hts, hown, hlk, hml⟩ := C
  have hown : s.vm.findClass RX7 = some m.cls := hown
  have hS : va_S A s.heap s.heap [] := va_S.rf
  have hl : lv_has ls 5 [(0, .ref wh), (1, .ref mh9)] := hl
  have hmu := dm_mul hd
  refine lv_iconst (v := nI 0) hx hb dX7_count_0 (by decide) ?_
  refine lv_istore_n (lv' := [(2, .int (nI 0)), (0, .ref wh), (1, .ref mh9)]) hx hb dX7_count_1 rfl hl (by decide) rfl (fun ls hl => ?_)
  refine lv_aload_n hx hb dX7_count_2 rfl (lv_at hl 1 rfl) ?_
  refine va_get (D := G.1) (ci := 6) (v := .ref dh) (C := RX7) (T := TX7) (N := 1) hx hb hts in_X7 hown hK hP 0 rfl rfl 0 (by decide) (hts _ q536) (fun _ h9 => h9) rfl dX7_count_3 ?_
  refine callVr (As := []) (rest := []) (wc := (DQB G dh dz)) (wr := (RWW G wh dh ++ LMW G mh9 cK ph ++ PW G ph pd nr nc pL pG pB pk pa pt pm)) ⟨hx, hb, hml, hown, hts⟩ (m_J1_iterator l G dh dz (bxs G (nr + nc)) (by first | assumption | omega)) (cwV 0 hts (lw_V q599 q600 q601 q92 q602) rfl rfl rfl (by decide +kernel) ⟨Nat.le_of_ble_eq_true rfl, Nat.le_of_ble_eq_true rfl⟩) hK hZ hA hP hD hS [1, 2] [0, 3, 4, 5, 6, 7, 8, 9] rfl rfl (by decide) (by decide) (by decide) 0 8 rfl rfl rfl hl.1 (Nat.le_of_ble_eq_true rfl) ⟨Nat.le_of_ble_eq_true rfl, Nat.le_of_ble_eq_true rfl⟩ rfl dX7_count_6 (fun r9 u9 H locs hw9 hP hD hS => ?_)
  refine W.widen (k := 1) (n := 4) (Nat.le_refl _) (Nat.le_refl _) ?_
  obtain ⟨r_1, e8⟩ : ∃ z, z = r9 := ⟨_, rfl⟩
  subst e8
  obtain ⟨hP, hD⟩ := re_PD (w := (RWW G wh dh ++ DQB G dh dz ++ LMW G mh9 cK ph ++ PW G ph pd nr nc pL pG pB pk pa pt pm ++ ITW G r_1 dh ((dz.2.1 + 0) % 17) ((bxs G (nr + nc)).length - 0) (-1))) hP hD [0, 8, 9, 1, 2, 3, 4, 5, 6, 7, 10] (by decide) rfl
  refine lv_astore_n (lv' := [(3, .ref r_1), (2, .int (nI 0)), (0, .ref wh), (1, .ref mh9)]) hx hb dX7_count_9 rfl hl (by decide) rfl (fun ls hl => ?_)
  have lp10 : ∀ (f : Nat) (i : Nat) (n : Nat) (la : Int32), nr + nc - i < f → (i ≤ nr + nc) → (n = cn (fun k => !pB k) i) → ∀ (H : Heap) (locs : List Loc) (ls : Array Slot), va_P G.1 CL (RWW G wh dh ++ DQB G dh dz ++ LMW G mh9 cK ph ++ PW G ph pd nr nc pL pG pB pk pa pt pm ++ ITW G r_1 dh ((dz.2.1 + i) % 17) ((bxs G (nr + nc)).length - i) la) H → va_D A (RWW G wh dh ++ DQB G dh dz ++ LMW G mh9 cK ph ++ PW G ph pd nr nc pL pG pB pk pa pt pm ++ ITW G r_1 dh ((dz.2.1 + i) % 17) ((bxs G (nr + nc)).length - i) la) → va_S A s.heap H locs → lv_has ls 5 [(0, .ref wh), (1, .ref mh9), (3, .ref r_1), (2, .int (nI n))] → W p l e (⟨4, 1, 4, 83⟩ : Room) s m args below meth cd H locs 1 4 Q (F0 m 10 ls []) := by
    intro f
    induction f with
    | zero => intro i n la hf; exact absurd hf (Nat.not_lt_zero _)
    | succ f ih10 =>
      intro i n la hf hi8 hn H locs ls hP hD hS hl
      refine lv_aload_n hx hb dX7_count_10 rfl (lv_at hl 2 rfl) ?_
      refine callFi (As := []) (rest := []) (wc := (ITW G r_1 dh ((dz.2.1 + i) % 17) ((bxs G (nr + nc)).length - i) la)) (wr := (RWW G wh dh ++ DQB G dh dz ++ LMW G mh9 cK ph ++ PW G ph pd nr nc pL pG pB pk pa pt pm)) ⟨hx, hb, hml, hown, hts⟩ (m_J19_hasNext l G r_1 dh ((dz.2.1 + i) % 17) ((bxs G (nr + nc)).length - i) la (by rw [bxs_len]; omega)) (va_cwF 0 hts (lw_F q630 q634 q636 q116 q638) rfl rfl rfl (hZ.fw (by decide) q632 q631 q637 q635 q633) (by decide +kernel) ⟨Nat.le_of_ble_eq_true rfl, Nat.le_of_ble_eq_true rfl⟩) hK hZ hA hP hD hS [10] [0, 1, 2, 3, 4, 5, 6, 7, 8, 9] rfl rfl (by decide) (by decide) (by decide) 0 10 rfl rfl rfl hl.1 (Nat.le_of_ble_eq_true rfl) ⟨Nat.le_of_ble_eq_true rfl, Nat.le_of_ble_eq_true rfl⟩ rfl dX7_count_11 (fun r9 u9 H locs hw9 hP hD hS => ?_)
      subst hw9
      have hP : va_P G.1 CL (RWW G wh dh ++ DQB G dh dz ++ LMW G mh9 cK ph ++ PW G ph pd nr nc pL pG pB pk pa pt pm ++ ITW G r_1 dh ((dz.2.1 + i) % 17) ((bxs G (nr + nc)).length - i) la) _ := hP
      have hD : va_D A (RWW G wh dh ++ DQB G dh dz ++ LMW G mh9 cK ph ++ PW G ph pd nr nc pL pG pB pk pa pt pm ++ ITW G r_1 dh ((dz.2.1 + i) % 17) ((bxs G (nr + nc)).length - i) la) := hD
      refine b_if_eq (tgt := 49) hx hb dX7_count_16 (by decide) (fun c16 => ?_) (fun c16 => ?_)
      · skip
        refine lv_iload_n hx hb dX7_count_49 rfl (lv_at hl 3 rfl) ?_
        obtain ⟨hP, hD⟩ := re_PD (w := (RWW G wh dh ++ DQB G dh dz ++ LMW G mh9 cK ph ++ PW G ph pd nr nc pL pG pB pk pa pt pm)) hP hD [0, 1, 2, 3, 4, 5, 6, 7, 8, 9] (by decide) rfl
        subst hQ
        exact ret_i hx hb hr hlk () (by rw [hn, show i = nr + nc by (have h := of_decide_eq_false c16; rw [bxs_len] at h; omega)]) hP hD hS rfl dX7_count_50
      · skip
        have hi9 : i < nr + nc := by have h := of_decide_eq_true c16; rw [bxs_len] at h; omega
        refine lv_aload_n hx hb dX7_count_19 rfl (lv_at hl 2 rfl) ?_
        refine callFr (As := []) (rest := []) (wc := (ITW G r_1 dh ((dz.2.1 + i) % 17) ((bxs G (nr + nc)).length - i) la ++ DQB G dh dz)) (wr := (RWW G wh dh ++ LMW G mh9 cK ph ++ PW G ph pd nr nc pL pG pB pk pa pt pm)) ⟨hx, hb, hml, hown, hts⟩ (m_J19_next l G r_1 dh la dz (bxs G (nr + nc)) i (by first | assumption | omega) (by rw [bxs_len]; exact hi9)) (va_cwF 0 hts (lw_F q640 q643 q645 q116 q647) rfl rfl rfl (hZ.fw (by decide) q642 q641 q646 q644 q633) (by decide +kernel) ⟨Nat.le_of_ble_eq_true rfl, Nat.le_of_ble_eq_true rfl⟩) hK hZ hA hP hD hS [10, 1, 2] [0, 3, 4, 5, 6, 7, 8, 9] rfl rfl (by decide) (by decide) (by decide) 0 10 rfl rfl rfl hl.1 (Nat.le_of_ble_eq_true rfl) ⟨Nat.le_of_ble_eq_true rfl, Nat.le_of_ble_eq_true rfl⟩ rfl dX7_count_20 (fun r9 u9 H locs hw9 hP hD hS => ?_)
        obtain ⟨la2_3, e9⟩ : ∃ z, z = u9 := ⟨_, rfl⟩
        subst e9
        subst hw9
        obtain ⟨hP, hD⟩ := re_PD (w := (RWW G wh dh ++ DQB G dh dz ++ LMW G mh9 cK ph ++ PW G ph pd nr nc pL pG pB pk pa pt pm ++ ITW G r_1 dh ((dz.2.1 + (i + 1)) % 17) ((bxs G (nr + nc)).length - (i + 1)) la2_3)) hP hD [0, 9, 10, 1, 2, 3, 4, 5, 6, 7, 8] (by decide) rfl
        refine eq_r (y := (icA G (i + 128))) (bxs_get G hi9) ?_
        refine lv_astore (lv' := [(4, .ref (icA G (i + 128))), (0, .ref wh), (1, .ref mh9), (3, .ref r_1), (2, .int (nI n))]) hx hb dX7_count_25 hl (by decide) rfl (fun ls hl => ?_)
        refine lv_iload_n hx hb dX7_count_27 rfl (lv_at hl 4 rfl) ?_
        refine lv_aload_n hx hb dX7_count_28 rfl (lv_at hl 2 rfl) ?_
        refine lv_aload hx hb dX7_count_29 (lv_at hl 0 rfl) ?_
        refine callLS (rest := [.int (nI n)]) (wc := (PW G ph pd nr nc pL pG pB pk pa pt pm)) (wr := (RWW G wh dh ++ DQB G dh dz ++ LMW G mh9 cK ph ++ ITW G r_1 dh ((dz.2.1 + (i + 1)) % 17) ((bxs G (nr + nc)).length - (i + 1)) la2_3)) (j := (i + 128)) ok2 rfl hcK ⟨hx, hb, hml, hown, hts⟩ (m_X1_lambda_boardOf_0 l G ph pd nr nc pL pG pB pk pa pt pm i (by first | assumption | omega) (by first | assumption | omega)) (by first | rfl | decide +kernel) (by first | rfl | decide +kernel) (by decide) (by decide +kernel) (by decide +kernel) q1383 (hts _ q88) (hts _ q674) (va_Nw.use rfl (KS.nw hZ q676 rfl)) (hZ.face (by decide) q676 q675) hK hZ hA hP hD hS [4, 5, 6, 7, 8, 9] [0, 1, 2, 3, 10] rfl rfl (by decide) (by decide) (by decide) (hts _ q1382) hIC (by omega) 3 rfl (fun r9 u9 h9 => by first | (subst h9; exact bI_nar _) | rfl) hl.1 (Nat.le_of_ble_eq_true rfl) ⟨Nat.le_of_ble_eq_true rfl, Nat.le_of_ble_eq_true rfl⟩ (Nat.le_of_ble_eq_true rfl) (Nat.le_of_ble_eq_true rfl) dX7_count_31 (fun r9 u9 H locs hw9 hP hD hS => ?_)
        subst hw9
        obtain ⟨hP, hD⟩ := re_PD (w := (RWW G wh dh ++ DQB G dh dz ++ LMW G mh9 cK ph ++ PW G ph pd nr nc pL pG pB pk pa pt pm ++ ITW G r_1 dh ((dz.2.1 + (i + 1)) % 17) ((bxs G (nr + nc)).length - (i + 1)) la2_3)) hP hD [0, 1, 2, 3, 5, 6, 7, 8, 9, 10, 4] (by decide) rfl
        refine b_if_eq (tgt := 43) hx hb dX7_count_36 (by decide) (fun c36 => ?_) (fun c36 => ?_)
        · skip
          refine lv_iconst (v := nI 0) hx hb dX7_count_43 (by decide) ?_
          refine n_iadd hx hb dX7_count_44 ?_
          refine lv_istore_n (lv' := [(2, .int (nI (n + 0))), (4, .ref (icA G (i + 128))), (0, .ref wh), (1, .ref mh9), (3, .ref r_1)]) hx hb dX7_count_45 rfl hl (by decide) rfl (fun ls hl => ?_)
          refine lv_goto (tgt := 10) hx hb dX7_count_46 (by decide) ?_
          exact ih10 (i + 1) (n + 0) la2_3 (by omega) (by omega) (hn ▸ cn_f (P := (fun k => !pB k)) c36) _ _ _ hP hD hS (lv_sub hl [2, 3, 4, 0] rfl)
        · skip
          refine lv_iconst (v := nI 1) hx hb dX7_count_39 (by decide) ?_
          refine lv_goto (tgt := 44) hx hb dX7_count_40 (by decide) ?_
          refine n_iadd hx hb dX7_count_44 ?_
          refine lv_istore_n (lv' := [(2, .int (nI (n + 1))), (4, .ref (icA G (i + 128))), (0, .ref wh), (1, .ref mh9), (3, .ref r_1)]) hx hb dX7_count_45 rfl hl (by decide) rfl (fun ls hl => ?_)
          refine lv_goto (tgt := 10) hx hb dX7_count_46 (by decide) ?_
          exact ih10 (i + 1) (n + 1) la2_3 (by omega) (by omega) (hn ▸ cn_t (P := (fun k => !pB k)) c36) _ _ _ hP hD hS (lv_sub hl [2, 3, 4, 0] rfl)
  exact lp10 _ 0 0 (-1) (Nat.lt_succ_self _) (by omega) rfl _ _ _ hP hD hS (lv_sub hl [2, 3, 0, 1] rfl)
set_option maxHeartbeats 4000000 in
set_option maxRecDepth 100000 in
theorem m_X7_count__4 (l : Launch) (G : GG) (wh : Nat) (dh : Nat) (dz : DQZ) (mh9 : Nat) (cK : Nat) (ph : Nat) (pd : Nat → Nat) (nr : Nat) (nc : Nat) (pL : Nat → Nat) (pG : Nat → Nat) (pB : Nat → Bool) (pk : Nat → Int32) (pa : Nat → Nat) (pt : Nat → Nat) (pm : Nat) (hd : 2 ≤ nr ∧ nr ≤ 3 ∧ 2 ≤ nc ∧ nc ≤ 3) (hz : DQh dz (bxs G (nr + nc))) (hIC : ICok G) (hcK : LamG G yX1_account 78 334 sh4 cK) : MM l G yX7_count cX7_count 5 (some .int) ⟨4, 1, 4, 83⟩ [.ref wh, .ref mh9] (RWW G wh dh ++ DQB G dh dz ++ LMW G mh9 cK ph ++ PW G ph pd nr nc pL pG pB pk pa pt pm) (Qi_ G (fun (r : Int32) (_ : Unit) => r = nI (cn (fun k => pB k) (nr + nc))) (fun (_ : Unit) => (RWW G wh dh ++ DQB G dh dz ++ LMW G mh9 cK ph ++ PW G ph pd nr nc pL pG pB pk pa pt pm))) := by
  refine MM.of (by decide) (Nat.le_of_ble_eq_true rfl) ?_
  intro p e s m args below meth cd A C hini hA hK hZ hP hD ls hl
  generalize hQ : MQ below ((Qi_ G (fun (r : Int32) (_ : Unit) => r = nI (cn (fun k => pB k) (nr + nc))) (fun (_ : Unit) => (RWW G wh dh ++ DQB G dh dz ++ LMW G mh9 cK ph ++ PW G ph pd nr nc pL pG pB pk pa pt pm))) A) args s (⟨4, 1, 4, 83⟩ : Room).cells (⟨4, 1, 4, 83⟩ : Room).slots A = Q
  obtain ⟨hx, hb, hr, hts, hown, hlk, hml⟩ := C
  have hown : s.vm.findClass RX7 = some m.cls := hown
  have hS : va_S A s.heap s.heap [] := va_S.rf
  have hl : lv_has ls 5 [(0, .ref wh), (1, .ref mh9)] := hl
  have hmu := dm_mul hd
  refine lv_iconst (v := nI 0) hx hb dX7_count_0 (by decide) ?_
  refine lv_istore_n (lv' := [(2, .int (nI 0)), (0, .ref wh), (1, .ref mh9)]) hx hb dX7_count_1 rfl hl (by decide) rfl (fun ls hl => ?_)
  refine lv_aload_n hx hb dX7_count_2 rfl (lv_at hl 1 rfl) ?_
  refine va_get (D := G.1) (ci := 6) (v := .ref dh) (C := RX7) (T := TX7) (N := 1) hx hb hts in_X7 hown hK hP 0 rfl rfl 0 (by decide) (hts _ q536) (fun _ h9 => h9) rfl dX7_count_3 ?_
  refine callVr (As := []) (rest := []) (wc := (DQB G dh dz)) (wr := (RWW G wh dh ++ LMW G mh9 cK ph ++ PW G ph pd nr nc pL pG pB pk pa pt pm)) ⟨hx, hb, hml, hown, hts⟩ (m_J1_iterator l G dh dz (bxs G (nr + nc)) (by first | assumption | omega)) (cwV 0 hts (lw_V q599 q600 q601 q92 q602) rfl rfl rfl (by decide +kernel) ⟨Nat.le_of_ble_eq_true rfl, Nat.le_of_ble_eq_true rfl⟩) hK hZ hA hP hD hS [1, 2] [0, 3, 4, 5, 6, 7, 8, 9] rfl rfl (by decide) (by decide) (by decide) 0 8 rfl rfl rfl hl.1 (Nat.le_of_ble_eq_true rfl) ⟨Nat.le_of_ble_eq_true rfl, Nat.le_of_ble_eq_true rfl⟩ rfl dX7_count_6 (fun r9 u9 H locs hw9 hP hD hS => ?_)
  refine W.widen (k := 1) (n := 4) (Nat.le_refl _) (Nat.le_refl _) ?_
  obtain ⟨r_1, e8⟩ : ∃ z, z = r9 := ⟨_, rfl⟩
  subst e8
  obtain ⟨hP, hD⟩ := re_PD (w := (RWW G wh dh ++ DQB G dh dz ++ LMW G mh9 cK ph ++ PW G ph pd nr nc pL pG pB pk pa pt pm ++ ITW G r_1 dh ((dz.2.1 + 0) % 17) ((bxs G (nr + nc)).length - 0) (-1))) hP hD [0, 8, 9, 1, 2, 3, 4, 5, 6, 7, 10] (by decide) rfl
  refine lv_astore_n (lv' := [(3, .ref r_1), (2, .int (nI 0)), (0, .ref wh), (1, .ref mh9)]) hx hb dX7_count_9 rfl hl (by decide) rfl (fun ls hl => ?_)
  have lp10 : ∀ (f : Nat) (i : Nat) (n : Nat) (la : Int32), nr + nc - i < f → (i ≤ nr + nc) → (n = cn (fun k => pB k) i) → ∀ (H : Heap) (locs : List Loc) (ls : Array Slot), va_P G.1 CL (RWW G wh dh ++ DQB G dh dz ++ LMW G mh9 cK ph ++ PW G ph pd nr nc pL pG pB pk pa pt pm ++ ITW G r_1 dh ((dz.2.1 + i) % 17) ((bxs G (nr + nc)).length - i) la) H → va_D A (RWW G wh dh ++ DQB G dh dz ++ LMW G mh9 cK ph ++ PW G ph pd nr nc pL pG pB pk pa pt pm ++ ITW G r_1 dh ((dz.2.1 + i) % 17) ((bxs G (nr + nc)).length - i) la) → va_S A s.heap H locs → lv_has ls 5 [(0, .ref wh), (1, .ref mh9), (3, .ref r_1), (2, .int (nI n))] → W p l e (⟨4, 1, 4, 83⟩ : Room) s m args below meth cd H locs 1 4 Q (F0 m 10 ls []) := by
    intro f
    induction f with
    | zero => intro i n la hf; exact absurd hf (Nat.not_lt_zero _)
    | succ f ih10 =>
      intro i n la hf hi8 hn H locs ls hP hD hS hl
      refine lv_aload_n hx hb dX7_count_10 rfl (lv_at hl 2 rfl) ?_
      refine callFi (As := []) (rest := []) (wc := (ITW G r_1 dh ((dz.2.1 + i) % 17) ((bxs G (nr + nc)).length - i) la)) (wr := (RWW G wh dh ++ DQB G dh dz ++ LMW G mh9 cK ph ++ PW G ph pd nr nc pL pG pB pk pa pt pm)) ⟨hx, hb, hml, hown, hts⟩ (m_J19_hasNext l G r_1 dh ((dz.2.1 + i) % 17) ((bxs G (nr + nc)).length - i) la (by rw [bxs_len]; omega)) (va_cwF 0 hts (lw_F q630 q634 q636 q116 q638) rfl rfl rfl (hZ.fw (by decide) q632 q631 q637 q635 q633) (by decide +kernel) ⟨Nat.le_of_ble_eq_true rfl, Nat.le_of_ble_eq_true rfl⟩) hK hZ hA hP hD hS [10] [0, 1, 2, 3, 4, 5, 6, 7, 8, 9] rfl rfl (by decide) (by decide) (by decide) 0 10 rfl rfl rfl hl.1 (Nat.le_of_ble_eq_true rfl) ⟨Nat.le_of_ble_eq_true rfl, Nat.le_of_ble_eq_true rfl⟩ rfl dX7_count_11 (fun r9 u9 H locs hw9 hP hD hS => ?_)
      subst hw9
      have hP : va_P G.1 CL (RWW G wh dh ++ DQB G dh dz ++ LMW G mh9 cK ph ++ PW G ph pd nr nc pL pG pB pk pa pt pm ++ ITW G r_1 dh ((dz.2.1 + i) % 17) ((bxs G (nr + nc)).length - i) la) _ := hP
      have hD : va_D A (RWW G wh dh ++ DQB G dh dz ++ LMW G mh9 cK ph ++ PW G ph pd nr nc pL pG pB pk pa pt pm ++ ITW G r_1 dh ((dz.2.1 + i) % 17) ((bxs G (nr + nc)).length - i) la) := hD
      refine b_if_eq (tgt := 49) hx hb dX7_count_16 (by decide) (fun c16 => ?_) (fun c16 => ?_)
      · skip
        refine lv_iload_n hx hb dX7_count_49 rfl (lv_at hl 3 rfl) ?_
        obtain ⟨hP, hD⟩ := re_PD (w := (RWW G wh dh ++ DQB G dh dz ++ LMW G mh9 cK ph ++ PW G ph pd nr nc pL pG pB pk pa pt pm)) hP hD [0, 1, 2, 3, 4, 5, 6, 7, 8, 9] (by decide) rfl
        subst hQ
        exact ret_i hx hb hr hlk () (by rw [hn, show i = nr + nc by (have h := of_decide_eq_false c16; rw [bxs_len] at h; omega)]) hP hD hS rfl dX7_count_50
      · skip
        have hi9 : i < nr + nc := by have h := of_decide_eq_true c16; rw [bxs_len] at h; omega
        refine lv_aload_n hx hb dX7_count_19 rfl (lv_at hl 2 rfl) ?_
        refine callFr (As := []) (rest := []) (wc := (ITW G r_1 dh ((dz.2.1 + i) % 17) ((bxs G (nr + nc)).length - i) la ++ DQB G dh dz)) (wr := (RWW G wh dh ++ LMW G mh9 cK ph ++ PW G ph pd nr nc pL pG pB pk pa pt pm)) ⟨hx, hb, hml, hown, hts⟩ (m_J19_next l G r_1 dh la dz (bxs G (nr + nc)) i (by first | assumption | omega) (by rw [bxs_len]; exact hi9)) (va_cwF 0 hts (lw_F q640 q643 q645 q116 q647) rfl rfl rfl (hZ.fw (by decide) q642 q641 q646 q644 q633) (by decide +kernel) ⟨Nat.le_of_ble_eq_true rfl, Nat.le_of_ble_eq_true rfl⟩) hK hZ hA hP hD hS [10, 1, 2] [0, 3, 4, 5, 6, 7, 8, 9] rfl rfl (by decide) (by decide) (by decide) 0 10 rfl rfl rfl hl.1 (Nat.le_of_ble_eq_true rfl) ⟨Nat.le_of_ble_eq_true rfl, Nat.le_of_ble_eq_true rfl⟩ rfl dX7_count_20 (fun r9 u9 H locs hw9 hP hD hS => ?_)
        obtain ⟨la2_3, e9⟩ : ∃ z, z = u9 := ⟨_, rfl⟩
        subst e9
        subst hw9
        obtain ⟨hP, hD⟩ := re_PD (w := (RWW G wh dh ++ DQB G dh dz ++ LMW G mh9 cK ph ++ PW G ph pd nr nc pL pG pB pk pa pt pm ++ ITW G r_1 dh ((dz.2.1 + (i + 1)) % 17) ((bxs G (nr + nc)).length - (i + 1)) la2_3)) hP hD [0, 9, 10, 1, 2, 3, 4, 5, 6, 7, 8] (by decide) rfl
        refine eq_r (y := (icA G (i + 128))) (bxs_get G hi9) ?_
        refine lv_astore (lv' := [(4, .ref (icA G (i + 128))), (0, .ref wh), (1, .ref mh9), (3, .ref r_1), (2, .int (nI n))]) hx hb dX7_count_25 hl (by decide) rfl (fun ls hl => ?_)
        refine lv_iload_n hx hb dX7_count_27 rfl (lv_at hl 4 rfl) ?_
        refine lv_aload_n hx hb dX7_count_28 rfl (lv_at hl 2 rfl) ?_
        refine lv_aload hx hb dX7_count_29 (lv_at hl 0 rfl) ?_
        refine callLS (rest := [.int (nI n)]) (wc := (PW G ph pd nr nc pL pG pB pk pa pt pm)) (wr := (RWW G wh dh ++ DQB G dh dz ++ LMW G mh9 cK ph ++ ITW G r_1 dh ((dz.2.1 + (i + 1)) % 17) ((bxs G (nr + nc)).length - (i + 1)) la2_3)) (j := (i + 128)) ok4 rfl hcK ⟨hx, hb, hml, hown, hts⟩ (m_X1_lambda_account_3 l G ph pd nr nc pL pG pB pk pa pt pm i (by first | assumption | omega) (by first | assumption | omega)) (by first | rfl | decide +kernel) (by first | rfl | decide +kernel) (by decide) (by decide +kernel) (by decide +kernel) q1643 (hts _ q88) (hts _ q674) (va_Nw.use rfl (KS.nw hZ q676 rfl)) (hZ.face (by decide) q676 q675) hK hZ hA hP hD hS [4, 5, 6, 7, 8, 9] [0, 1, 2, 3, 10] rfl rfl (by decide) (by decide) (by decide) (hts _ q1642) hIC (by omega) 3 rfl (fun r9 u9 h9 => by first | (subst h9; exact bI_nar _) | rfl) hl.1 (Nat.le_of_ble_eq_true rfl) ⟨Nat.le_of_ble_eq_true rfl, Nat.le_of_ble_eq_true rfl⟩ (Nat.le_of_ble_eq_true rfl) (Nat.le_of_ble_eq_true rfl) dX7_count_31 (fun r9 u9 H locs hw9 hP hD hS => ?_)
        subst hw9
        obtain ⟨hP, hD⟩ := re_PD (w := (RWW G wh dh ++ DQB G dh dz ++ LMW G mh9 cK ph ++ PW G ph pd nr nc pL pG pB pk pa pt pm ++ ITW G r_1 dh ((dz.2.1 + (i + 1)) % 17) ((bxs G (nr + nc)).length - (i + 1)) la2_3)) hP hD [0, 1, 2, 3, 5, 6, 7, 8, 9, 10, 4] (by decide) rfl
        refine b_if_eq (tgt := 43) hx hb dX7_count_36 (by decide) (fun c36 => ?_) (fun c36 => ?_)
        · skip
          refine lv_iconst (v := nI 0) hx hb dX7_count_43 (by decide) ?_
          refine n_iadd hx hb dX7_count_44 ?_
          refine lv_istore_n (lv' := [(2, .int (nI (n + 0))), (4, .ref (icA G (i + 128))), (0, .ref wh), (1, .ref mh9), (3, .ref r_1)]) hx hb dX7_count_45 rfl hl (by decide) rfl (fun ls hl => ?_)
          refine lv_goto (tgt := 10) hx hb dX7_count_46 (by decide) ?_
          exact ih10 (i + 1) (n + 0) la2_3 (by omega) (by omega) (hn ▸ cn_f (P := (fun k => pB k)) c36) _ _ _ hP hD hS (lv_sub hl [2, 3, 4, 0] rfl)
        · skip
          refine lv_iconst (v := nI 1) hx hb dX7_count_39 (by decide) ?_
          refine lv_goto (tgt := 44) hx hb dX7_count_40 (by decide) ?_
          refine n_iadd hx hb dX7_count_44 ?_
          refine lv_istore_n (lv' := [(2, .int (nI (n + 1))), (4, .ref (icA G (i + 128))), (0, .ref wh), (1, .ref mh9), (3, .ref r_1)]) hx hb dX7_count_45 rfl hl (by decide) rfl (fun ls hl => ?_)
          refine lv_goto (tgt := 10) hx hb dX7_count_46 (by decide) ?_
          exact ih10 (i + 1) (n + 1) la2_3 (by omega) (by omega) (hn ▸ cn_t (P := (fun k => pB k)) c36) _ _ _ hP hD hS (lv_sub hl [2, 3, 4, 0] rfl)
  exact lp10 _ 0 0 (-1) (Nat.lt_succ_self _) (by omega) rfl _ _ _ hP hD hS (lv_sub hl [2, 3, 0, 1] rfl)
