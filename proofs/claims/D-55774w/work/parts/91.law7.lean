theorem bo_0 {nr nc : Nat} {L K : Nat → Nat} {B : Nat → Bool} {w : Int32} (h : bo1 w = nI 1) : boV nr nc L K B w = nI 0 := by
  unfold bo1 at h
  by_cases h9 : w = nI 0 ∨ w = nI 1 ∨ w = nI 2 ∨ w = nI 3 ∨ w = nI 4 ∨ w = nI 5 ∨ w = nI 6
  · rw [if_pos h9] at h; exact absurd h (by decide)
  · simp only [not_or] at h9
    obtain ⟨h0, h1, h2, h3, h4, h5, h6⟩ := h9
    unfold boV; rw [if_neg h0, if_neg h1, if_neg h2, if_neg h3, if_neg h4, if_neg h5, if_neg h6]
theorem ac_0 {nr nc : Nat} {B : Nat → Bool} {k : Nat → Int32} {ty ch : Nat} {w : Int32} (h : ac1 w = nI 1) : acV nr nc B k ty ch w = nI 0 := by
  unfold ac1 at h
  by_cases h9 : w = nI 0 ∨ w = nI 1 ∨ w = nI 2 ∨ w = nI 3 ∨ w = nI 4 ∨ w = nI 5 ∨ w = nI 6 ∨ w = nI 7 ∨ w = nI 8 ∨ w = nI 9
  · rw [if_pos h9] at h; exact absurd h (by decide)
  · simp only [not_or] at h9
    obtain ⟨h0, h1, h2, h3, h4, h5, h6, h7, h8, h10⟩ := h9
    unfold acV; rw [if_neg h0, if_neg h1, if_neg h2, if_neg h3, if_neg h4, if_neg h5, if_neg h6, if_neg h7, if_neg h8, if_neg h10]
theorem bo_if (w : Int32) : (if bo1 w = nI 0 then nI 0 else nI 1) = bo1 w := by
  rcases bo1_or w with h | h
  · rw [if_pos h, h]
  · rw [if_neg (by rw [h]; decide), h]
theorem ac_if (w : Int32) : (if ac1 w = nI 0 then nI 0 else nI 1) = ac1 w := by
  rcases ac1_or w with h | h
  · rw [if_pos h, h]
  · rw [if_neg (by rw [h]; decide), h]
theorem bP_v (P O : Bool) : bI (P && O) = if P = true then bI O else nI 0 := by cases P <;> cases O <;> rfl
theorem bP_t (P : Bool) : (if P = true then nI 0 else nI 1) = bI (!P) := by cases P <;> rfl
set_option maxHeartbeats 4000000 in
set_option maxRecDepth 100000 in
theorem m_X5_boardOf__A (l : Launch) (G : GG) (mc : MAd) (b : AS) (k : MJ) (th : Int32) (wa : Int32) (hv : vA b) (hok : okM b k) : MM l G yX5_boardOf cX5_boardOf 2 (some .int) ⟨3, 0, 0, 66⟩ [.ref mc.1, .int wa] (MAW G mc b k th) (Qi_ G (fun (r : Int32) (u : (MJ)) => (r = (qI (decide (bo1 wa = nI 0)) (boV b.1.1 b.1.2.1 b.1.2.2.1 b.1.2.2.2.1 b.1.2.2.2.2.1 wa) b b).2.1) ∧ (okM (qI (decide (bo1 wa = nI 0)) (boV b.1.1 b.1.2.1 b.1.2.2.1 b.1.2.2.2.1 b.1.2.2.2.2.1 wa) b b).2.2 u)) (fun (u : (MJ)) => (MAW G mc ((qI (decide (bo1 wa = nI 0)) (boV b.1.1 b.1.2.1 b.1.2.2.1 b.1.2.2.2.1 b.1.2.2.2.2.1 wa) b b).2.2) u (nI (qI (decide (bo1 wa = nI 0)) (boV b.1.1 b.1.2.1 b.1.2.2.1 b.1.2.2.2.1 b.1.2.2.2.2.1 wa) b b).1)))) := by
  obtain ⟨⟨hd, hLR, hKR, hL, hG⟩, hvs, hvh, hvb, hvl, ⟨rn, hrn, hrf⟩⟩ := id hv
  obtain ⟨hH, ⟨hty, hinp⟩, hHT⟩ := id hok
  have hmu := dm_mul hd
  refine (m_X5_boardOf l G mc.1 mc.2 b.1.1 b.1.2.1 b.1.2.2.1 b.1.2.2.2.1 b.1.2.2.2.2.1 b.1.2.2.2.2.2 k.1 k.2.1 (gZ b.2.1) k.2.2.1 b.2.2.1 k.2.2.2.1 k.2.2.2.2.1 b.2.2.2.2.2.2.1 b.2.2.2.2.2.2.2.1 b.2.2.2.2.2.2.2.2 k.2.2.2.2.2.1 k.2.2.2.2.2.2.1 k.2.2.2.2.2.2.2.1 th k.2.2.2.2.2.2.2.2.1 k.2.2.2.2.2.2.2.2.2.1 k.2.2.2.2.2.2.2.2.2.2.1 k.2.2.2.2.2.2.2.2.2.2.2.1 k.2.2.2.2.2.2.2.2.2.2.2.2.1 k.2.2.2.2.2.2.2.2.2.2.2.2.2 wa (by first | assumption | omega) (by first | assumption | omega) (by first | assumption | omega)).mono (fun A a s o t h => ?_)
  obtain ⟨⟨r, rf1, e, hp, hB⟩, hF⟩ := h
  refine ⟨⟨r, (k.1, k.2.1, k.2.2.1, k.2.2.2.1, k.2.2.2.2.1, rf1, k.2.2.2.2.2.2.1, k.2.2.2.2.2.2.2.1, k.2.2.2.2.2.2.2.2.1, k.2.2.2.2.2.2.2.2.2.1, k.2.2.2.2.2.2.2.2.2.2.1, k.2.2.2.2.2.2.2.2.2.2.2.1, k.2.2.2.2.2.2.2.2.2.2.2.2.1, k.2.2.2.2.2.2.2.2.2.2.2.2.2), e, ⟨?_, ?_⟩, ?_⟩, hF⟩
  · rw [hp, qI_vd]; rcases bo1_or wa with h9 | h9; (rw [if_pos h9]); (rw [if_neg (by rw [h9]; decide)]; exact bo_0 h9)
  · rw [qI_s0]; exact hok
  · rw [qI_s0, qI_thd, bo_if]; exact hB
set_option maxHeartbeats 4000000 in
set_option maxRecDepth 100000 in
theorem m_X5_account__A (l : Launch) (G : GG) (mc : MAd) (b : AS) (k : MJ) (th : Int32) (wa : Int32) (hv : vA b) (hok : okM b k) : MM l G yX5_account cX5_account 2 (some .int) ⟨2, 0, 0, 42⟩ [.ref mc.1, .int wa] (MAW G mc b k th) (Qi_ G (fun (r : Int32) (u : (MJ)) => (r = (qI (decide (ac1 wa = nI 0)) (acV b.1.1 b.1.2.1 b.1.2.2.2.2.1 b.1.2.2.2.2.2 b.2.2.2.2.1.length b.2.2.2.1.length wa) b b).2.1) ∧ (okM (qI (decide (ac1 wa = nI 0)) (acV b.1.1 b.1.2.1 b.1.2.2.2.2.1 b.1.2.2.2.2.2 b.2.2.2.2.1.length b.2.2.2.1.length wa) b b).2.2 u)) (fun (u : (MJ)) => (MAW G mc ((qI (decide (ac1 wa = nI 0)) (acV b.1.1 b.1.2.1 b.1.2.2.2.2.1 b.1.2.2.2.2.2 b.2.2.2.2.1.length b.2.2.2.1.length wa) b b).2.2) u (nI (qI (decide (ac1 wa = nI 0)) (acV b.1.1 b.1.2.1 b.1.2.2.2.2.1 b.1.2.2.2.2.2 b.2.2.2.2.1.length b.2.2.2.1.length wa) b b).1)))) := by
  obtain ⟨⟨hd, hLR, hKR, hL, hG⟩, hvs, hvh, hvb, hvl, ⟨rn, hrn, hrf⟩⟩ := id hv
  obtain ⟨hH, ⟨hty, hinp⟩, hHT⟩ := id hok
  have hmu := dm_mul hd
  refine (m_X5_account l G mc.1 mc.2 b.1.1 b.1.2.1 b.1.2.2.1 b.1.2.2.2.1 b.1.2.2.2.2.1 b.1.2.2.2.2.2 k.1 k.2.1 (gZ b.2.1) k.2.2.1 b.2.2.1 k.2.2.2.1 k.2.2.2.2.1 b.2.2.2.2.2.2.1 b.2.2.2.2.2.2.2.1 b.2.2.2.2.2.2.2.2 k.2.2.2.2.2.1 k.2.2.2.2.2.2.1 k.2.2.2.2.2.2.2.1 th k.2.2.2.2.2.2.2.2.1 k.2.2.2.2.2.2.2.2.2.1 k.2.2.2.2.2.2.2.2.2.2.1 k.2.2.2.2.2.2.2.2.2.2.2.1 k.2.2.2.2.2.2.2.2.2.2.2.2.1 k.2.2.2.2.2.2.2.2.2.2.2.2.2 wa (by first | assumption | omega)).mono (fun A a s o t h => ?_)
  obtain ⟨⟨r, rf1, e, hp, hB⟩, hF⟩ := h
  refine ⟨⟨r, (k.1, k.2.1, k.2.2.1, k.2.2.2.1, k.2.2.2.2.1, rf1, k.2.2.2.2.2.2.1, k.2.2.2.2.2.2.2.1, k.2.2.2.2.2.2.2.2.1, k.2.2.2.2.2.2.2.2.2.1, k.2.2.2.2.2.2.2.2.2.2.1, k.2.2.2.2.2.2.2.2.2.2.2.1, k.2.2.2.2.2.2.2.2.2.2.2.2.1, k.2.2.2.2.2.2.2.2.2.2.2.2.2), e, ⟨?_, ?_⟩, ?_⟩, hF⟩
  · rw [hp, qI_vd, ← hty, ← hH.1]; rcases ac1_or wa with h9 | h9; (rw [if_pos h9]); (rw [if_neg (by rw [h9]; decide)]; exact ac_0 h9)
  · rw [qI_s0]; exact hok
  · rw [qI_s0, qI_thd, ac_if]; exact hB
set_option maxHeartbeats 4000000 in
set_option maxRecDepth 100000 in
theorem m_X5_isOdd__A (l : Launch) (G : GG) (mc : MAd) (b : AS) (k : MJ) (th : Int32) (az : Bool) (hv : vA b) (hok : okM b k) : MM l G yX5_isOdd cX5_isOdd 3 (some .boolean) ⟨3, 0, 0, 67⟩ [.ref mc.1, .int (bI az)] (MAW G mc b k th) (Qi_ G (fun (r : Int32) (u : (MJ)) => (r = (qI (pry b.1.2.2.1 b.1.2.2.2.1 (b.1.1 * b.1.2.1) 0) (bI (odN (hoN (b.1.1 * b.1.2.1) b.1.2.2.1 b.1.2.2.2.1) (b.1.1 * b.1.2.1))) b b).2.1) ∧ (okM (qI (pry b.1.2.2.1 b.1.2.2.2.1 (b.1.1 * b.1.2.1) 0) (bI (odN (hoN (b.1.1 * b.1.2.1) b.1.2.2.1 b.1.2.2.2.1) (b.1.1 * b.1.2.1))) b b).2.2 u)) (fun (u : (MJ)) => (MAW G mc ((qI (pry b.1.2.2.1 b.1.2.2.2.1 (b.1.1 * b.1.2.1) 0) (bI (odN (hoN (b.1.1 * b.1.2.1) b.1.2.2.1 b.1.2.2.2.1) (b.1.1 * b.1.2.1))) b b).2.2) u (nI (qI (pry b.1.2.2.1 b.1.2.2.2.1 (b.1.1 * b.1.2.1) 0) (bI (odN (hoN (b.1.1 * b.1.2.1) b.1.2.2.1 b.1.2.2.2.1) (b.1.1 * b.1.2.1))) b b).1)))) := by
  obtain ⟨⟨hd, hLR, hKR, hL, hG⟩, hvs, hvh, hvb, hvl, ⟨rn, hrn, hrf⟩⟩ := id hv
  obtain ⟨hH, ⟨hty, hinp⟩, hHT⟩ := id hok
  have hmu := dm_mul hd
  refine (m_X5_isOdd l G mc.1 mc.2 b.1.1 b.1.2.1 b.1.2.2.1 b.1.2.2.2.1 b.1.2.2.2.2.1 b.1.2.2.2.2.2 k.1 k.2.1 (gZ b.2.1) k.2.2.1 b.2.2.1 k.2.2.2.1 k.2.2.2.2.1 b.2.2.2.2.2.2.1 b.2.2.2.2.2.2.2.1 b.2.2.2.2.2.2.2.2 k.2.2.2.2.2.1 k.2.2.2.2.2.2.1 k.2.2.2.2.2.2.2.1 th k.2.2.2.2.2.2.2.2.1 k.2.2.2.2.2.2.2.2.2.1 k.2.2.2.2.2.2.2.2.2.2.1 k.2.2.2.2.2.2.2.2.2.2.2.1 k.2.2.2.2.2.2.2.2.2.2.2.2.1 k.2.2.2.2.2.2.2.2.2.2.2.2.2 (bI az) (by first | assumption | omega) (by first | assumption | omega) (by first | assumption | omega)).mono (fun A a s o t h => ?_)
  obtain ⟨⟨r, mv1, e, hp, hB⟩, hF⟩ := h
  refine ⟨⟨r, (k.1, k.2.1, k.2.2.1, k.2.2.2.1, k.2.2.2.2.1, k.2.2.2.2.2.1, k.2.2.2.2.2.2.1, k.2.2.2.2.2.2.2.1, k.2.2.2.2.2.2.2.2.1, mv1, k.2.2.2.2.2.2.2.2.2.2.1, k.2.2.2.2.2.2.2.2.2.2.2.1, k.2.2.2.2.2.2.2.2.2.2.2.2.1, k.2.2.2.2.2.2.2.2.2.2.2.2.2), e, ⟨?_, ?_⟩, ?_⟩, hF⟩
  · rw [hp, qI_v, bP_v]
  · rw [qI_s0]; exact hok
  · rw [qI_s0, qI_th, bP_t]; exact hB
set_option maxHeartbeats 4000000 in
set_option maxRecDepth 100000 in
theorem m_X5_character__A (l : Launch) (G : GG) (mc : MAd) (b : AS) (k : MJ) (th : Int32) (p0 : Int32) (hv : vA b) (hok : okM b k) : MM l G yX5_character cX5_character 2 (some .char) ⟨1, 0, 0, 22⟩ [.ref mc.1, .int p0] (MAW G mc b k th) (Qi_ G (fun (r : Int32) (u : (MJ)) => (r = (qI (isIx p0 b.2.2.2.2.2.1.length) (nI (b.2.2.2.2.2.1.getD (cl_ p0) 0)) b b).2.1) ∧ (okM (qI (isIx p0 b.2.2.2.2.2.1.length) (nI (b.2.2.2.2.2.1.getD (cl_ p0) 0)) b b).2.2 u)) (fun (u : (MJ)) => (MAW G mc ((qI (isIx p0 b.2.2.2.2.2.1.length) (nI (b.2.2.2.2.2.1.getD (cl_ p0) 0)) b b).2.2) u (nI (qI (isIx p0 b.2.2.2.2.2.1.length) (nI (b.2.2.2.2.2.1.getD (cl_ p0) 0)) b b).1)))) := by
  obtain ⟨⟨hd, hLR, hKR, hL, hG⟩, hvs, hvh, hvb, hvl, ⟨rn, hrn, hrf⟩⟩ := id hv
  obtain ⟨hH, ⟨hty, hinp⟩, hHT⟩ := id hok
  have hmu := dm_mul hd
  refine (m_X5_character l G mc.1 mc.2 b.1.1 b.1.2.1 b.1.2.2.1 b.1.2.2.2.1 b.1.2.2.2.2.1 b.1.2.2.2.2.2 k.1 k.2.1 (gZ b.2.1) k.2.2.1 b.2.2.1 k.2.2.2.1 k.2.2.2.2.1 b.2.2.2.2.2.2.1 b.2.2.2.2.2.2.2.1 b.2.2.2.2.2.2.2.2 k.2.2.2.2.2.1 k.2.2.2.2.2.2.1 k.2.2.2.2.2.2.2.1 th k.2.2.2.2.2.2.2.2.1 k.2.2.2.2.2.2.2.2.2.1 k.2.2.2.2.2.2.2.2.2.2.1 k.2.2.2.2.2.2.2.2.2.2.2.1 k.2.2.2.2.2.2.2.2.2.2.2.2.1 k.2.2.2.2.2.2.2.2.2.2.2.2.2 p0 (by rw [hHT.1]; omega) (fun j hj => by rw [hHT.at hj]; exact hvl.2 j)).mono (fun A a s o t h => ?_)
  obtain ⟨⟨r, _, e, hp, hB⟩, hF⟩ := h
  refine ⟨⟨r, (k.1, k.2.1, k.2.2.1, k.2.2.2.1, k.2.2.2.2.1, k.2.2.2.2.2.1, k.2.2.2.2.2.2.1, k.2.2.2.2.2.2.2.1, k.2.2.2.2.2.2.2.2.1, k.2.2.2.2.2.2.2.2.2.1, k.2.2.2.2.2.2.2.2.2.2.1, k.2.2.2.2.2.2.2.2.2.2.2.1, k.2.2.2.2.2.2.2.2.2.2.2.2.1, k.2.2.2.2.2.2.2.2.2.2.2.2.2), e, ⟨?_, ?_⟩, ?_⟩, hF⟩
  · rw [hp, qI_v, ← hHT.1]; split; (rename_i h9; obtain ⟨k9, h8, rfl⟩ := isIx_t h9 (by rw [hHT.1]; omega); rw [cl_n (by rw [hHT.1] at h8; omega), hHT.at h8]); rfl
  · rw [qI_s0]; exact hok
  · rw [qI_s0, qI_th, ← hHT.1]; exact hB
set_option maxHeartbeats 4000000 in
set_option maxRecDepth 100000 in
theorem m_X5_lineText__A (l : Launch) (G : GG) (mc : MAd) (b : AS) (k : MJ) (th : Int32) (p0 : Int32) (hv : vA b) (hok : okM b k) : MM l G yX5_lineText cX5_lineText 3 (some .int) ⟨4, 0, 0, 90⟩ [.ref mc.1, .int p0] (MAW G mc b k th) (Qi_ G (fun (r : Int32) (u : (MJ)) => (r = (qI (isIx p0 (b.1.1 + b.1.2.1)) (nI (lineX b.1.1 b.1.2.1 b.1.2.2.1 b.1.2.2.2.2.1 (cl_ p0)).length) b (liA b (lineX b.1.1 b.1.2.1 b.1.2.2.1 b.1.2.2.2.2.1 (cl_ p0)))).2.1) ∧ (okM (qI (isIx p0 (b.1.1 + b.1.2.1)) (nI (lineX b.1.1 b.1.2.1 b.1.2.2.1 b.1.2.2.2.2.1 (cl_ p0)).length) b (liA b (lineX b.1.1 b.1.2.1 b.1.2.2.1 b.1.2.2.2.2.1 (cl_ p0)))).2.2 u)) (fun (u : (MJ)) => (MAW G mc ((qI (isIx p0 (b.1.1 + b.1.2.1)) (nI (lineX b.1.1 b.1.2.1 b.1.2.2.1 b.1.2.2.2.2.1 (cl_ p0)).length) b (liA b (lineX b.1.1 b.1.2.1 b.1.2.2.1 b.1.2.2.2.2.1 (cl_ p0)))).2.2) u (nI (qI (isIx p0 (b.1.1 + b.1.2.1)) (nI (lineX b.1.1 b.1.2.1 b.1.2.2.1 b.1.2.2.2.2.1 (cl_ p0)).length) b (liA b (lineX b.1.1 b.1.2.1 b.1.2.2.1 b.1.2.2.2.2.1 (cl_ p0)))).1)))) := by
  obtain ⟨⟨hd, hLR, hKR, hL, hG⟩, hvs, hvh, hvb, hvl, ⟨rn, hrn, hrf⟩⟩ := id hv
  obtain ⟨hH, ⟨hty, hinp⟩, hHT⟩ := id hok
  have hmu := dm_mul hd
  by_cases hc9 : isIx p0 (b.1.1 + b.1.2.1) = true
  ·
    rw [show (qI (isIx p0 (b.1.1 + b.1.2.1)) (nI (lineX b.1.1 b.1.2.1 b.1.2.2.1 b.1.2.2.2.2.1 (cl_ p0)).length) b (liA b (lineX b.1.1 b.1.2.1 b.1.2.2.1 b.1.2.2.2.2.1 (cl_ p0)))) = (0, nI (lineX b.1.1 b.1.2.1 b.1.2.2.1 b.1.2.2.2.2.1 (cl_ p0)).length, (liA b (lineX b.1.1 b.1.2.1 b.1.2.2.1 b.1.2.2.2.2.1 (cl_ p0)))) from qI_t hc9]
    refine (m_X5_lineText l G mc.1 mc.2 b.1.1 b.1.2.1 b.1.2.2.1 b.1.2.2.2.1 b.1.2.2.2.2.1 b.1.2.2.2.2.2 k.1 k.2.1 (gZ b.2.1) k.2.2.1 b.2.2.1 k.2.2.2.1 k.2.2.2.2.1 b.2.2.2.2.2.2.1 b.2.2.2.2.2.2.2.1 b.2.2.2.2.2.2.2.2 k.2.2.2.2.2.1 k.2.2.2.2.2.2.1 k.2.2.2.2.2.2.2.1 th k.2.2.2.2.2.2.2.2.1 k.2.2.2.2.2.2.2.2.2.1 k.2.2.2.2.2.2.2.2.2.2.1 k.2.2.2.2.2.2.2.2.2.2.2.1 k.2.2.2.2.2.2.2.2.2.2.2.2.1 k.2.2.2.2.2.2.2.2.2.2.2.2.2 p0 b.2.2.2.2.2.1 (by first | assumption | omega) (by first | assumption | omega)).mono (fun A a s o t h => ?_)
    obtain ⟨⟨r, ⟨lt1, ln1, rf1⟩, e, ⟨hp, hq9⟩, hB⟩, hF⟩ := h
    simp only [if_pos hc9] at hp hq9 hB
    refine ⟨⟨r, (k.1, k.2.1, k.2.2.1, k.2.2.2.1, k.2.2.2.2.1, rf1, lt1, ln1, k.2.2.2.2.2.2.2.2.1, k.2.2.2.2.2.2.2.2.2.1, k.2.2.2.2.2.2.2.2.2.2.1, k.2.2.2.2.2.2.2.2.2.2.2.1, k.2.2.2.2.2.2.2.2.2.2.2.2.1, k.2.2.2.2.2.2.2.2.2.2.2.2.2), e, ⟨?_, ?_⟩, ?_⟩, hF⟩
    · exact hp
    · exact ⟨hH, ⟨hty, hinp⟩, hq9 hHT⟩
    · exact hB
  ·
    rw [show (qI (isIx p0 (b.1.1 + b.1.2.1)) (nI (lineX b.1.1 b.1.2.1 b.1.2.2.1 b.1.2.2.2.2.1 (cl_ p0)).length) b (liA b (lineX b.1.1 b.1.2.1 b.1.2.2.1 b.1.2.2.2.2.1 (cl_ p0)))) = (1, nI 0, b) from qI_f (by simpa using hc9)]
    refine (m_X5_lineText l G mc.1 mc.2 b.1.1 b.1.2.1 b.1.2.2.1 b.1.2.2.2.1 b.1.2.2.2.2.1 b.1.2.2.2.2.2 k.1 k.2.1 (gZ b.2.1) k.2.2.1 b.2.2.1 k.2.2.2.1 k.2.2.2.2.1 b.2.2.2.2.2.2.1 b.2.2.2.2.2.2.2.1 b.2.2.2.2.2.2.2.2 k.2.2.2.2.2.1 k.2.2.2.2.2.2.1 k.2.2.2.2.2.2.2.1 th k.2.2.2.2.2.2.2.2.1 k.2.2.2.2.2.2.2.2.2.1 k.2.2.2.2.2.2.2.2.2.2.1 k.2.2.2.2.2.2.2.2.2.2.2.1 k.2.2.2.2.2.2.2.2.2.2.2.2.1 k.2.2.2.2.2.2.2.2.2.2.2.2.2 p0 b.2.2.2.2.2.1 (by first | assumption | omega) (by first | assumption | omega)).mono (fun A a s o t h => ?_)
    obtain ⟨⟨r, ⟨lt1, ln1, rf1⟩, e, ⟨hp, hq9⟩, hB⟩, hF⟩ := h
    simp only [if_neg hc9] at hp hq9 hB
    refine ⟨⟨r, (k.1, k.2.1, k.2.2.1, k.2.2.2.1, k.2.2.2.2.1, rf1, lt1, ln1, k.2.2.2.2.2.2.2.2.1, k.2.2.2.2.2.2.2.2.2.1, k.2.2.2.2.2.2.2.2.2.2.1, k.2.2.2.2.2.2.2.2.2.2.2.1, k.2.2.2.2.2.2.2.2.2.2.2.2.1, k.2.2.2.2.2.2.2.2.2.2.2.2.2), e, ⟨?_, ?_⟩, ?_⟩, hF⟩
    · exact hp
    · exact ⟨hH, ⟨hty, hinp⟩, hq9 hHT⟩
    · exact hB
