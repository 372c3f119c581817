/-! ===== the model's side ===== -/
theorem qI_th {c : Bool} {x : Int32} {a a' : AS} : nI (qI c x a a').1 = if c = true then nI 0 else nI 1 := by unfold qI; split <;> rfl
theorem qI_v {c : Bool} {x : Int32} {a a' : AS} : (qI c x a a').2.1 = if c = true then x else nI 0 := by unfold qI; split <;> rfl
theorem qI_s {c : Bool} {x : Int32} {a a' : AS} : (qI c x a a').2.2 = if c = true then a' else a := by unfold qI; split <;> rfl
theorem qI_s0 {c : Bool} {x : Int32} {a : AS} : (qI c x a a).2.2 = a := by unfold qI; split <;> rfl
theorem qI_thd {P : Prop} [Decidable P] {x : Int32} {a a' : AS} : nI (qI (decide P) x a a').1 = if P then nI 0 else nI 1 := by
  rw [qI_th]; by_cases h : P
  · rw [if_pos (decide_eq_true h), if_pos h]
  · rw [if_neg (by rw [decide_eq_false h]; decide), if_neg h]
theorem qI_vd {P : Prop} [Decidable P] {x : Int32} {a a' : AS} : (qI (decide P) x a a').2.1 = if P then x else nI 0 := by
  rw [qI_v]; by_cases h : P
  · rw [if_pos (decide_eq_true h), if_pos h]
  · rw [if_neg (by rw [decide_eq_false h]; decide), if_neg h]
theorem qI_thn {P : Prop} [Decidable P] {x : Int32} {a a' : AS} : nI (qI (decide (¬ P)) x a a').1 = if P then nI 1 else nI 0 := by
  rw [qI_thd]; by_cases h : P
  · rw [if_neg (fun z => z h), if_pos h]
  · rw [if_pos h, if_neg h]
theorem qI_vn {P : Prop} [Decidable P] {x : Int32} {a a' : AS} : (qI (decide (¬ P)) x a a').2.1 = if P then nI 0 else x := by
  rw [qI_vd]; by_cases h : P
  · rw [if_neg (fun z => z h), if_pos h]
  · rw [if_pos h, if_neg h]
theorem qW_th {c d : Bool} {x : Int32} {a : AS} : nI (qW c d x a).1 = if c = true then (if d = true then nI 0 else nI 2) else nI 1 := by
  unfold qW; split
  · split <;> rfl
  · rfl
theorem qW_v {c d : Bool} {x : Int32} {a : AS} : (qW c d x a).2.1 = if c = true then (if d = true then x else nI 0) else nI 0 := by
  unfold qW; split
  · split <;> rfl
  · rfl
theorem qW_s {c d : Bool} {x : Int32} {a : AS} : (qW c d x a).2.2 = a := by
  unfold qW; split
  · split <;> rfl
  · rfl
theorem asO_eq {a : AS} {o : OT} (h : okO a.1 o) : asO a o = (o.2.1, a.2.1, a.2.2.1, oH o a.2.2.2.1 a.1, a.2.2.2.2.1, a.2.2.2.2.2.1, a.2.2.2.2.2.2.1, oWy o a.2.2.2.2.2.2.2.1, oWd o a.2.2.2.2.2.2.2.2) := by
  unfold asO oH
  by_cases h0 : o.1 = 0
  · rw [if_pos h0, if_pos h0]
    have e := h.2.2 h0
    unfold oWy oWd; rw [e]
  · rw [if_neg h0, if_neg h0, (h.2.1 h0).1]
theorem bo1_or (w : Int32) : bo1 w = nI 0 ∨ bo1 w = nI 1 := by unfold bo1; split; exact Or.inl rfl; exact Or.inr rfl
theorem ac1_or (w : Int32) : ac1 w = nI 0 ∨ ac1 w = nI 1 := by unfold ac1; split; exact Or.inl rfl; exact Or.inr rfl
set_option maxHeartbeats 4000000 in
set_option maxRecDepth 100000 in
theorem m_X5_letter__A (l : Launch) (G : GG) (mc : MAd) (b : AS) (k : MJ) (th : Int32) (p0 : Int32) (hv : vA b) (hok : okM b k) : MM l G yX5_letter cX5_letter 2 (some .char) ⟨2, 0, 0, 43⟩ [.ref mc.1, .int p0] (MAW G mc b k th) (Qi_ G (fun (r : Int32) (u : (MJ)) => (r = (qI (isIx p0 (b.1.1 * b.1.2.1)) (nI (b.1.2.2.1 (cl_ p0))) b b).2.1) ∧ (okM (qI (isIx p0 (b.1.1 * b.1.2.1)) (nI (b.1.2.2.1 (cl_ p0))) b b).2.2 u)) (fun (u : (MJ)) => (MAW G mc ((qI (isIx p0 (b.1.1 * b.1.2.1)) (nI (b.1.2.2.1 (cl_ p0))) b b).2.2) u (nI (qI (isIx p0 (b.1.1 * b.1.2.1)) (nI (b.1.2.2.1 (cl_ p0))) b b).1)))) := by
  obtain ⟨⟨hd, hLR, hKR, hL, hG⟩, hvs, hvh, hvb, hvl, ⟨rn, hrn, hrf⟩⟩ := id hv
  obtain ⟨hH, ⟨hty, hinp⟩, hHT⟩ := id hok
  have hmu := dm_mul hd
  refine (m_X5_letter l G mc.1 mc.2 b.1.1 b.1.2.1 b.1.2.2.1 b.1.2.2.2.1 b.1.2.2.2.2.1 b.1.2.2.2.2.2 k.1 k.2.1 (gZ b.2.1) k.2.2.1 b.2.2.1 k.2.2.2.1 k.2.2.2.2.1 b.2.2.2.2.2.2.1 b.2.2.2.2.2.2.2.1 b.2.2.2.2.2.2.2.2 k.2.2.2.2.2.1 k.2.2.2.2.2.2.1 k.2.2.2.2.2.2.2.1 th k.2.2.2.2.2.2.2.2.1 k.2.2.2.2.2.2.2.2.2.1 k.2.2.2.2.2.2.2.2.2.2.1 k.2.2.2.2.2.2.2.2.2.2.2.1 k.2.2.2.2.2.2.2.2.2.2.2.2.1 k.2.2.2.2.2.2.2.2.2.2.2.2.2 p0 (by first | assumption | omega) (by first | assumption | omega)).mono (fun A a s o t h => ?_)
  obtain ⟨⟨r, _, e, hp, hB⟩, hF⟩ := h
  refine ⟨⟨r, (k.1, k.2.1, k.2.2.1, k.2.2.2.1, k.2.2.2.2.1, k.2.2.2.2.2.1, k.2.2.2.2.2.2.1, k.2.2.2.2.2.2.2.1, k.2.2.2.2.2.2.2.2.1, k.2.2.2.2.2.2.2.2.2.1, k.2.2.2.2.2.2.2.2.2.2.1, k.2.2.2.2.2.2.2.2.2.2.2.1, k.2.2.2.2.2.2.2.2.2.2.2.2.1, k.2.2.2.2.2.2.2.2.2.2.2.2.2), e, ⟨?_, ?_⟩, ?_⟩, hF⟩
  · (rw [hp, qI_v]) <;> (split <;> rfl)
  · rw [qI_s0]; exact hok
  · rw [qI_s0, qI_th]; exact hB
set_option maxHeartbeats 4000000 in
set_option maxRecDepth 100000 in
theorem m_X5_sign__A (l : Launch) (G : GG) (mc : MAd) (b : AS) (k : MJ) (th : Int32) (p0 : Int32) (hv : vA b) (hok : okM b k) : MM l G yX5_sign cX5_sign 2 (some .char) ⟨2, 0, 0, 43⟩ [.ref mc.1, .int p0] (MAW G mc b k th) (Qi_ G (fun (r : Int32) (u : (MJ)) => (r = (qI (isIx p0 (b.1.1 * b.1.2.1)) (nI (b.1.2.2.2.1 (cl_ p0))) b b).2.1) ∧ (okM (qI (isIx p0 (b.1.1 * b.1.2.1)) (nI (b.1.2.2.2.1 (cl_ p0))) b b).2.2 u)) (fun (u : (MJ)) => (MAW G mc ((qI (isIx p0 (b.1.1 * b.1.2.1)) (nI (b.1.2.2.2.1 (cl_ p0))) b b).2.2) u (nI (qI (isIx p0 (b.1.1 * b.1.2.1)) (nI (b.1.2.2.2.1 (cl_ p0))) b b).1)))) := by
  obtain ⟨⟨hd, hLR, hKR, hL, hG⟩, hvs, hvh, hvb, hvl, ⟨rn, hrn, hrf⟩⟩ := id hv
  obtain ⟨hH, ⟨hty, hinp⟩, hHT⟩ := id hok
  have hmu := dm_mul hd
  refine (m_X5_sign l G mc.1 mc.2 b.1.1 b.1.2.1 b.1.2.2.1 b.1.2.2.2.1 b.1.2.2.2.2.1 b.1.2.2.2.2.2 k.1 k.2.1 (gZ b.2.1) k.2.2.1 b.2.2.1 k.2.2.2.1 k.2.2.2.2.1 b.2.2.2.2.2.2.1 b.2.2.2.2.2.2.2.1 b.2.2.2.2.2.2.2.2 k.2.2.2.2.2.1 k.2.2.2.2.2.2.1 k.2.2.2.2.2.2.2.1 th k.2.2.2.2.2.2.2.2.1 k.2.2.2.2.2.2.2.2.2.1 k.2.2.2.2.2.2.2.2.2.2.1 k.2.2.2.2.2.2.2.2.2.2.2.1 k.2.2.2.2.2.2.2.2.2.2.2.2.1 k.2.2.2.2.2.2.2.2.2.2.2.2.2 p0 (by first | assumption | omega) (by first | assumption | omega)).mono (fun A a s o t h => ?_)
  obtain ⟨⟨r, _, e, hp, hB⟩, hF⟩ := h
  refine ⟨⟨r, (k.1, k.2.1, k.2.2.1, k.2.2.2.1, k.2.2.2.2.1, k.2.2.2.2.2.1, k.2.2.2.2.2.2.1, k.2.2.2.2.2.2.2.1, k.2.2.2.2.2.2.2.2.1, k.2.2.2.2.2.2.2.2.2.1, k.2.2.2.2.2.2.2.2.2.2.1, k.2.2.2.2.2.2.2.2.2.2.2.1, k.2.2.2.2.2.2.2.2.2.2.2.2.1, k.2.2.2.2.2.2.2.2.2.2.2.2.2), e, ⟨?_, ?_⟩, ?_⟩, hF⟩
  · (rw [hp, qI_v]) <;> (split <;> rfl)
  · rw [qI_s0]; exact hok
  · rw [qI_s0, qI_th]; exact hB
set_option maxHeartbeats 4000000 in
set_option maxRecDepth 100000 in
theorem m_X5_isBarred__A (l : Launch) (G : GG) (mc : MAd) (b : AS) (k : MJ) (th : Int32) (p0 : Int32) (hv : vA b) (hok : okM b k) : MM l G yX5_isBarred cX5_isBarred 2 (some .boolean) ⟨2, 0, 0, 43⟩ [.ref mc.1, .int p0] (MAW G mc b k th) (Qi_ G (fun (r : Int32) (u : (MJ)) => (r = (qI (isIx p0 (b.1.1 + b.1.2.1)) (bI (b.1.2.2.2.2.1 (cl_ p0))) b b).2.1) ∧ (okM (qI (isIx p0 (b.1.1 + b.1.2.1)) (bI (b.1.2.2.2.2.1 (cl_ p0))) b b).2.2 u)) (fun (u : (MJ)) => (MAW G mc ((qI (isIx p0 (b.1.1 + b.1.2.1)) (bI (b.1.2.2.2.2.1 (cl_ p0))) b b).2.2) u (nI (qI (isIx p0 (b.1.1 + b.1.2.1)) (bI (b.1.2.2.2.2.1 (cl_ p0))) b b).1)))) := by
  obtain ⟨⟨hd, hLR, hKR, hL, hG⟩, hvs, hvh, hvb, hvl, ⟨rn, hrn, hrf⟩⟩ := id hv
  obtain ⟨hH, ⟨hty, hinp⟩, hHT⟩ := id hok
  have hmu := dm_mul hd
  refine (m_X5_isBarred l G mc.1 mc.2 b.1.1 b.1.2.1 b.1.2.2.1 b.1.2.2.2.1 b.1.2.2.2.2.1 b.1.2.2.2.2.2 k.1 k.2.1 (gZ b.2.1) k.2.2.1 b.2.2.1 k.2.2.2.1 k.2.2.2.2.1 b.2.2.2.2.2.2.1 b.2.2.2.2.2.2.2.1 b.2.2.2.2.2.2.2.2 k.2.2.2.2.2.1 k.2.2.2.2.2.2.1 k.2.2.2.2.2.2.2.1 th k.2.2.2.2.2.2.2.2.1 k.2.2.2.2.2.2.2.2.2.1 k.2.2.2.2.2.2.2.2.2.2.1 k.2.2.2.2.2.2.2.2.2.2.2.1 k.2.2.2.2.2.2.2.2.2.2.2.2.1 k.2.2.2.2.2.2.2.2.2.2.2.2.2 p0 (by first | assumption | omega)).mono (fun A a s o t h => ?_)
  obtain ⟨⟨r, _, e, hp, hB⟩, hF⟩ := h
  refine ⟨⟨r, (k.1, k.2.1, k.2.2.1, k.2.2.2.1, k.2.2.2.2.1, k.2.2.2.2.2.1, k.2.2.2.2.2.2.1, k.2.2.2.2.2.2.2.1, k.2.2.2.2.2.2.2.2.1, k.2.2.2.2.2.2.2.2.2.1, k.2.2.2.2.2.2.2.2.2.2.1, k.2.2.2.2.2.2.2.2.2.2.2.1, k.2.2.2.2.2.2.2.2.2.2.2.2.1, k.2.2.2.2.2.2.2.2.2.2.2.2.2), e, ⟨?_, ?_⟩, ?_⟩, hF⟩
  · (rw [hp, qI_v]) <;> (split <;> rfl)
  · rw [qI_s0]; exact hok
  · rw [qI_s0, qI_th]; exact hB
set_option maxHeartbeats 4000000 in
set_option maxRecDepth 100000 in
theorem m_X5_sings__A (l : Launch) (G : GG) (mc : MAd) (b : AS) (k : MJ) (th : Int32) (p0 : Int32) (hv : vA b) (hok : okM b k) : MM l G yX5_sings cX5_sings 2 (some .boolean) ⟨4, 0, 0, 90⟩ [.ref mc.1, .int p0] (MAW G mc b k th) (Qi_ G (fun (r : Int32) (u : (MJ)) => (r = (qI (isIx p0 (b.1.1 + b.1.2.1)) (bI (snN b.1.1 b.1.2.1 b.1.2.2.1 (cl_ p0))) b b).2.1) ∧ (okM (qI (isIx p0 (b.1.1 + b.1.2.1)) (bI (snN b.1.1 b.1.2.1 b.1.2.2.1 (cl_ p0))) b b).2.2 u)) (fun (u : (MJ)) => (MAW G mc ((qI (isIx p0 (b.1.1 + b.1.2.1)) (bI (snN b.1.1 b.1.2.1 b.1.2.2.1 (cl_ p0))) b b).2.2) u (nI (qI (isIx p0 (b.1.1 + b.1.2.1)) (bI (snN b.1.1 b.1.2.1 b.1.2.2.1 (cl_ p0))) b b).1)))) := by
  obtain ⟨⟨hd, hLR, hKR, hL, hG⟩, hvs, hvh, hvb, hvl, ⟨rn, hrn, hrf⟩⟩ := id hv
  obtain ⟨hH, ⟨hty, hinp⟩, hHT⟩ := id hok
  have hmu := dm_mul hd
  refine (m_X5_sings l G mc.1 mc.2 b.1.1 b.1.2.1 b.1.2.2.1 b.1.2.2.2.1 b.1.2.2.2.2.1 b.1.2.2.2.2.2 k.1 k.2.1 (gZ b.2.1) k.2.2.1 b.2.2.1 k.2.2.2.1 k.2.2.2.2.1 b.2.2.2.2.2.2.1 b.2.2.2.2.2.2.2.1 b.2.2.2.2.2.2.2.2 k.2.2.2.2.2.1 k.2.2.2.2.2.2.1 k.2.2.2.2.2.2.2.1 th k.2.2.2.2.2.2.2.2.1 k.2.2.2.2.2.2.2.2.2.1 k.2.2.2.2.2.2.2.2.2.2.1 k.2.2.2.2.2.2.2.2.2.2.2.1 k.2.2.2.2.2.2.2.2.2.2.2.2.1 k.2.2.2.2.2.2.2.2.2.2.2.2.2 p0 (by first | assumption | omega) (by first | assumption | omega)).mono (fun A a s o t h => ?_)
  obtain ⟨⟨r, _, e, hp, hB⟩, hF⟩ := h
  refine ⟨⟨r, (k.1, k.2.1, k.2.2.1, k.2.2.2.1, k.2.2.2.2.1, k.2.2.2.2.2.1, k.2.2.2.2.2.2.1, k.2.2.2.2.2.2.2.1, k.2.2.2.2.2.2.2.2.1, k.2.2.2.2.2.2.2.2.2.1, k.2.2.2.2.2.2.2.2.2.2.1, k.2.2.2.2.2.2.2.2.2.2.2.1, k.2.2.2.2.2.2.2.2.2.2.2.2.1, k.2.2.2.2.2.2.2.2.2.2.2.2.2), e, ⟨?_, ?_⟩, ?_⟩, hF⟩
  · (rw [hp, qI_v]) <;> (split <;> rfl)
  · rw [qI_s0]; exact hok
  · rw [qI_s0, qI_th]; exact hB
set_option maxHeartbeats 4000000 in
set_option maxRecDepth 100000 in
theorem m_X5_would__A (l : Launch) (G : GG) (mc : MAd) (b : AS) (k : MJ) (th : Int32) (p0 : Int32) (hv : vA b) (hok : okM b k) : MM l G yX5_would cX5_would 2 (some .int) ⟨3, 0, 0, 69⟩ [.ref mc.1, .int p0] (MAW G mc b k th) (Qi_ G (fun (r : Int32) (u : (MJ)) => (r = (qI (isIx p0 (2 * (b.1.1 + b.1.2.1))) (nI (hm b.1.1 b.1.2.1 (tn b.1.1 b.1.2.1 (cl_ p0) b.1.2.2.1) b.1.2.2.2.1)) b b).2.1) ∧ (okM (qI (isIx p0 (2 * (b.1.1 + b.1.2.1))) (nI (hm b.1.1 b.1.2.1 (tn b.1.1 b.1.2.1 (cl_ p0) b.1.2.2.1) b.1.2.2.2.1)) b b).2.2 u)) (fun (u : (MJ)) => (MAW G mc ((qI (isIx p0 (2 * (b.1.1 + b.1.2.1))) (nI (hm b.1.1 b.1.2.1 (tn b.1.1 b.1.2.1 (cl_ p0) b.1.2.2.1) b.1.2.2.2.1)) b b).2.2) u (nI (qI (isIx p0 (2 * (b.1.1 + b.1.2.1))) (nI (hm b.1.1 b.1.2.1 (tn b.1.1 b.1.2.1 (cl_ p0) b.1.2.2.1) b.1.2.2.2.1)) b b).1)))) := by
  obtain ⟨⟨hd, hLR, hKR, hL, hG⟩, hvs, hvh, hvb, hvl, ⟨rn, hrn, hrf⟩⟩ := id hv
  obtain ⟨hH, ⟨hty, hinp⟩, hHT⟩ := id hok
  have hmu := dm_mul hd
  refine (m_X5_would l G mc.1 mc.2 b.1.1 b.1.2.1 b.1.2.2.1 b.1.2.2.2.1 b.1.2.2.2.2.1 b.1.2.2.2.2.2 k.1 k.2.1 (gZ b.2.1) k.2.2.1 b.2.2.1 k.2.2.2.1 k.2.2.2.2.1 b.2.2.2.2.2.2.1 b.2.2.2.2.2.2.2.1 b.2.2.2.2.2.2.2.2 k.2.2.2.2.2.1 k.2.2.2.2.2.2.1 k.2.2.2.2.2.2.2.1 th k.2.2.2.2.2.2.2.2.1 k.2.2.2.2.2.2.2.2.2.1 k.2.2.2.2.2.2.2.2.2.2.1 k.2.2.2.2.2.2.2.2.2.2.2.1 k.2.2.2.2.2.2.2.2.2.2.2.2.1 k.2.2.2.2.2.2.2.2.2.2.2.2.2 p0 (by first | assumption | omega) (by first | assumption | omega) (by first | assumption | omega)).mono (fun A a s o t h => ?_)
  obtain ⟨⟨r, ⟨tr1, mv1, rf1⟩, e, hp, hB⟩, hF⟩ := h
  refine ⟨⟨r, (k.1, k.2.1, k.2.2.1, k.2.2.2.1, k.2.2.2.2.1, rf1, k.2.2.2.2.2.2.1, k.2.2.2.2.2.2.2.1, tr1, mv1, k.2.2.2.2.2.2.2.2.2.2.1, k.2.2.2.2.2.2.2.2.2.2.2.1, k.2.2.2.2.2.2.2.2.2.2.2.2.1, k.2.2.2.2.2.2.2.2.2.2.2.2.2), e, ⟨?_, ?_⟩, ?_⟩, hF⟩
  · (rw [hp, qI_v]) <;> (split <;> rfl)
  · rw [qI_s0]; exact hok
  · rw [qI_s0, qI_th]; exact hB
set_option maxHeartbeats 4000000 in
set_option maxRecDepth 100000 in
theorem m_X5_best__A (l : Launch) (G : GG) (mc : MAd) (b : AS) (k : MJ) (th : Int32) (hv : vA b) (hok : okM b k) : MM l G yX5_best cX5_best 5 (some .int) ⟨3, 0, 0, 69⟩ [.ref mc.1] (MAW G mc b k th) (Qi_ G (fun (r : Int32) (u : (MJ)) => (r = (qI (decide (bsN b.1.1 b.1.2.1 b.1.2.2.2.2.1 b.1.2.2.1 b.1.2.2.2.1 (2 * (b.1.1 + b.1.2.1)) < 2 * (b.1.1 + b.1.2.1))) (nI (bsN b.1.1 b.1.2.1 b.1.2.2.2.2.1 b.1.2.2.1 b.1.2.2.2.1 (2 * (b.1.1 + b.1.2.1)))) b b).2.1) ∧ (okM (qI (decide (bsN b.1.1 b.1.2.1 b.1.2.2.2.2.1 b.1.2.2.1 b.1.2.2.2.1 (2 * (b.1.1 + b.1.2.1)) < 2 * (b.1.1 + b.1.2.1))) (nI (bsN b.1.1 b.1.2.1 b.1.2.2.2.2.1 b.1.2.2.1 b.1.2.2.2.1 (2 * (b.1.1 + b.1.2.1)))) b b).2.2 u)) (fun (u : (MJ)) => (MAW G mc ((qI (decide (bsN b.1.1 b.1.2.1 b.1.2.2.2.2.1 b.1.2.2.1 b.1.2.2.2.1 (2 * (b.1.1 + b.1.2.1)) < 2 * (b.1.1 + b.1.2.1))) (nI (bsN b.1.1 b.1.2.1 b.1.2.2.2.2.1 b.1.2.2.1 b.1.2.2.2.1 (2 * (b.1.1 + b.1.2.1)))) b b).2.2) u (nI (qI (decide (bsN b.1.1 b.1.2.1 b.1.2.2.2.2.1 b.1.2.2.1 b.1.2.2.2.1 (2 * (b.1.1 + b.1.2.1)) < 2 * (b.1.1 + b.1.2.1))) (nI (bsN b.1.1 b.1.2.1 b.1.2.2.2.2.1 b.1.2.2.1 b.1.2.2.2.1 (2 * (b.1.1 + b.1.2.1)))) b b).1)))) := by
  obtain ⟨⟨hd, hLR, hKR, hL, hG⟩, hvs, hvh, hvb, hvl, ⟨rn, hrn, hrf⟩⟩ := id hv
  obtain ⟨hH, ⟨hty, hinp⟩, hHT⟩ := id hok
  have hmu := dm_mul hd
  refine (m_X5_best l G mc.1 mc.2 b.1.1 b.1.2.1 b.1.2.2.1 b.1.2.2.2.1 b.1.2.2.2.2.1 b.1.2.2.2.2.2 k.1 k.2.1 (gZ b.2.1) k.2.2.1 b.2.2.1 k.2.2.2.1 k.2.2.2.2.1 b.2.2.2.2.2.2.1 b.2.2.2.2.2.2.2.1 b.2.2.2.2.2.2.2.2 k.2.2.2.2.2.1 k.2.2.2.2.2.2.1 k.2.2.2.2.2.2.2.1 th k.2.2.2.2.2.2.2.2.1 k.2.2.2.2.2.2.2.2.2.1 k.2.2.2.2.2.2.2.2.2.2.1 k.2.2.2.2.2.2.2.2.2.2.2.1 k.2.2.2.2.2.2.2.2.2.2.2.2.1 k.2.2.2.2.2.2.2.2.2.2.2.2.2 (by first | assumption | omega) (by first | assumption | omega) (by first | assumption | omega)).mono (fun A a s o t h => ?_)
  obtain ⟨⟨r, ⟨tr1, mv1, rf1⟩, e, hp, hB⟩, hF⟩ := h
  refine ⟨⟨r, (k.1, k.2.1, k.2.2.1, k.2.2.2.1, k.2.2.2.2.1, rf1, k.2.2.2.2.2.2.1, k.2.2.2.2.2.2.2.1, tr1, mv1, k.2.2.2.2.2.2.2.2.2.2.1, k.2.2.2.2.2.2.2.2.2.2.2.1, k.2.2.2.2.2.2.2.2.2.2.2.2.1, k.2.2.2.2.2.2.2.2.2.2.2.2.2), e, ⟨?_, ?_⟩, ?_⟩, hF⟩
  · (rw [hp, qI_vd]) <;> (split <;> rfl)
  · rw [qI_s0]; exact hok
  · rw [qI_s0, qI_thd]; exact hB
set_option maxHeartbeats 4000000 in
set_option maxRecDepth 100000 in
theorem m_X5_far__A (l : Launch) (G : GG) (mc : MAd) (b : AS) (k : MJ) (th : Int32) (p0 : Int32) (p1 : Int32) (hv : vA b) (hok : okM b k) : MM l G yX5_far cX5_far 3 (some .int) ⟨2, 0, 0, 46⟩ [.ref mc.1, .int p0, .int p1] (MAW G mc b k th) (Qi_ G (fun (r : Int32) (u : (MJ)) => (r = (qI (isIx p0 (b.1.1 * b.1.2.1) && isIx p1 (b.1.1 * b.1.2.1)) (nI (farN b.1.1 b.1.2.1 (cl_ p0) (cl_ p1))) b b).2.1) ∧ (okM (qI (isIx p0 (b.1.1 * b.1.2.1) && isIx p1 (b.1.1 * b.1.2.1)) (nI (farN b.1.1 b.1.2.1 (cl_ p0) (cl_ p1))) b b).2.2 u)) (fun (u : (MJ)) => (MAW G mc ((qI (isIx p0 (b.1.1 * b.1.2.1) && isIx p1 (b.1.1 * b.1.2.1)) (nI (farN b.1.1 b.1.2.1 (cl_ p0) (cl_ p1))) b b).2.2) u (nI (qI (isIx p0 (b.1.1 * b.1.2.1) && isIx p1 (b.1.1 * b.1.2.1)) (nI (farN b.1.1 b.1.2.1 (cl_ p0) (cl_ p1))) b b).1)))) := by
  obtain ⟨⟨hd, hLR, hKR, hL, hG⟩, hvs, hvh, hvb, hvl, ⟨rn, hrn, hrf⟩⟩ := id hv
  obtain ⟨hH, ⟨hty, hinp⟩, hHT⟩ := id hok
  have hmu := dm_mul hd
  refine (m_X5_far l G mc.1 mc.2 b.1.1 b.1.2.1 b.1.2.2.1 b.1.2.2.2.1 b.1.2.2.2.2.1 b.1.2.2.2.2.2 k.1 k.2.1 (gZ b.2.1) k.2.2.1 b.2.2.1 k.2.2.2.1 k.2.2.2.2.1 b.2.2.2.2.2.2.1 b.2.2.2.2.2.2.2.1 b.2.2.2.2.2.2.2.2 k.2.2.2.2.2.1 k.2.2.2.2.2.2.1 k.2.2.2.2.2.2.2.1 th k.2.2.2.2.2.2.2.2.1 k.2.2.2.2.2.2.2.2.2.1 k.2.2.2.2.2.2.2.2.2.2.1 k.2.2.2.2.2.2.2.2.2.2.2.1 k.2.2.2.2.2.2.2.2.2.2.2.2.1 k.2.2.2.2.2.2.2.2.2.2.2.2.2 p0 p1 (by first | assumption | omega)).mono (fun A a s o t h => ?_)
  obtain ⟨⟨r, rf1, e, hp, hB⟩, hF⟩ := h
  refine ⟨⟨r, (k.1, k.2.1, k.2.2.1, k.2.2.2.1, k.2.2.2.2.1, rf1, k.2.2.2.2.2.2.1, k.2.2.2.2.2.2.2.1, k.2.2.2.2.2.2.2.2.1, k.2.2.2.2.2.2.2.2.2.1, k.2.2.2.2.2.2.2.2.2.2.1, k.2.2.2.2.2.2.2.2.2.2.2.1, k.2.2.2.2.2.2.2.2.2.2.2.2.1, k.2.2.2.2.2.2.2.2.2.2.2.2.2), e, ⟨?_, ?_⟩, ?_⟩, hF⟩
  · (rw [hp, qI_v]) <;> (split <;> rfl)
  · rw [qI_s0]; exact hok
  · rw [qI_s0, qI_th]; exact hB
set_option maxHeartbeats 4000000 in
set_option maxRecDepth 100000 in
theorem m_X5_where__A (l : Launch) (G : GG) (mc : MAd) (b : AS) (k : MJ) (th : Int32) (p0 : Int32) (p1 : Int32) (p2 : Int32) (hv : vA b) (hok : okM b k) : MM l G yX5_where cX5_where 6 (some .int) ⟨2, 0, 0, 43⟩ [.ref mc.1, .int p0, .int p1, .int p2] (MAW G mc b k th) (Qi_ G (fun (r : Int32) (u : (MJ)) => (r = (qW (isIx p0 (b.1.1 * b.1.2.1) && isIx p1 (2 * (b.1.1 + b.1.2.1))) (decide (nI 0 ≤ p2 ∧ p2 ≤ nI 99)) (nI (whN b.1.1 b.1.2.1 (cl_ p0) (cl_ p1) (cl_ p2))) b).2.1) ∧ (okM (qW (isIx p0 (b.1.1 * b.1.2.1) && isIx p1 (2 * (b.1.1 + b.1.2.1))) (decide (nI 0 ≤ p2 ∧ p2 ≤ nI 99)) (nI (whN b.1.1 b.1.2.1 (cl_ p0) (cl_ p1) (cl_ p2))) b).2.2 u)) (fun (u : (MJ)) => (MAW G mc ((qW (isIx p0 (b.1.1 * b.1.2.1) && isIx p1 (2 * (b.1.1 + b.1.2.1))) (decide (nI 0 ≤ p2 ∧ p2 ≤ nI 99)) (nI (whN b.1.1 b.1.2.1 (cl_ p0) (cl_ p1) (cl_ p2))) b).2.2) u (nI (qW (isIx p0 (b.1.1 * b.1.2.1) && isIx p1 (2 * (b.1.1 + b.1.2.1))) (decide (nI 0 ≤ p2 ∧ p2 ≤ nI 99)) (nI (whN b.1.1 b.1.2.1 (cl_ p0) (cl_ p1) (cl_ p2))) b).1)))) := by
  obtain ⟨⟨hd, hLR, hKR, hL, hG⟩, hvs, hvh, hvb, hvl, ⟨rn, hrn, hrf⟩⟩ := id hv
  obtain ⟨hH, ⟨hty, hinp⟩, hHT⟩ := id hok
  have hmu := dm_mul hd
  refine (m_X5_where l G mc.1 mc.2 b.1.1 b.1.2.1 b.1.2.2.1 b.1.2.2.2.1 b.1.2.2.2.2.1 b.1.2.2.2.2.2 k.1 k.2.1 (gZ b.2.1) k.2.2.1 b.2.2.1 k.2.2.2.1 k.2.2.2.2.1 b.2.2.2.2.2.2.1 b.2.2.2.2.2.2.2.1 b.2.2.2.2.2.2.2.2 k.2.2.2.2.2.1 k.2.2.2.2.2.2.1 k.2.2.2.2.2.2.2.1 th k.2.2.2.2.2.2.2.2.1 k.2.2.2.2.2.2.2.2.2.1 k.2.2.2.2.2.2.2.2.2.2.1 k.2.2.2.2.2.2.2.2.2.2.2.1 k.2.2.2.2.2.2.2.2.2.2.2.2.1 k.2.2.2.2.2.2.2.2.2.2.2.2.2 p0 p1 p2 (by first | assumption | omega)).mono (fun A a s o t h => ?_)
  obtain ⟨⟨r, rf1, e, hp, hB⟩, hF⟩ := h
  refine ⟨⟨r, (k.1, k.2.1, k.2.2.1, k.2.2.2.1, k.2.2.2.2.1, rf1, k.2.2.2.2.2.2.1, k.2.2.2.2.2.2.2.1, k.2.2.2.2.2.2.2.2.1, k.2.2.2.2.2.2.2.2.2.1, k.2.2.2.2.2.2.2.2.2.2.1, k.2.2.2.2.2.2.2.2.2.2.2.1, k.2.2.2.2.2.2.2.2.2.2.2.2.1, k.2.2.2.2.2.2.2.2.2.2.2.2.2), e, ⟨?_, ?_⟩, ?_⟩, hF⟩
  · rw [hp, qW_v]
  · rw [qW_s]; exact hok
  · rw [qW_s, qW_th]; exact hB
set_option maxHeartbeats 4000000 in
set_option maxRecDepth 100000 in
theorem m_X5_ranked__A (l : Launch) (G : GG) (mc : MAd) (b : AS) (k : MJ) (th : Int32) (p0 : Int32) (hv : vA b) (hok : okM b k) : MM l G yX5_ranked cX5_ranked 5 (some .int) ⟨3, 0, 0, 67⟩ [.ref mc.1, .int p0] (MAW G mc b k th) (Qi_ G (fun (r : Int32) (u : (MJ)) => (r = (qI (decide (rkN b.1.1 b.1.2.1 b.1.2.2.1 p0 < b.1.1 + b.1.2.1)) (nI (rkN b.1.1 b.1.2.1 b.1.2.2.1 p0)) b b).2.1) ∧ (okM (qI (decide (rkN b.1.1 b.1.2.1 b.1.2.2.1 p0 < b.1.1 + b.1.2.1)) (nI (rkN b.1.1 b.1.2.1 b.1.2.2.1 p0)) b b).2.2 u)) (fun (u : (MJ)) => (MAW G mc ((qI (decide (rkN b.1.1 b.1.2.1 b.1.2.2.1 p0 < b.1.1 + b.1.2.1)) (nI (rkN b.1.1 b.1.2.1 b.1.2.2.1 p0)) b b).2.2) u (nI (qI (decide (rkN b.1.1 b.1.2.1 b.1.2.2.1 p0 < b.1.1 + b.1.2.1)) (nI (rkN b.1.1 b.1.2.1 b.1.2.2.1 p0)) b b).1)))) := by
  obtain ⟨⟨hd, hLR, hKR, hL, hG⟩, hvs, hvh, hvb, hvl, ⟨rn, hrn, hrf⟩⟩ := id hv
  obtain ⟨hH, ⟨hty, hinp⟩, hHT⟩ := id hok
  have hmu := dm_mul hd
  refine (m_X5_ranked l G mc.1 mc.2 b.1.1 b.1.2.1 b.1.2.2.1 b.1.2.2.2.1 b.1.2.2.2.2.1 b.1.2.2.2.2.2 k.1 k.2.1 (gZ b.2.1) k.2.2.1 b.2.2.1 k.2.2.2.1 k.2.2.2.2.1 b.2.2.2.2.2.2.1 b.2.2.2.2.2.2.2.1 b.2.2.2.2.2.2.2.2 k.2.2.2.2.2.1 k.2.2.2.2.2.2.1 k.2.2.2.2.2.2.2.1 th k.2.2.2.2.2.2.2.2.1 k.2.2.2.2.2.2.2.2.2.1 k.2.2.2.2.2.2.2.2.2.2.1 k.2.2.2.2.2.2.2.2.2.2.2.1 k.2.2.2.2.2.2.2.2.2.2.2.2.1 k.2.2.2.2.2.2.2.2.2.2.2.2.2 p0 (by first | assumption | omega) (by first | assumption | omega)).mono (fun A a s o t h => ?_)
  obtain ⟨⟨r, rf1, e, hp, hB⟩, hF⟩ := h
  refine ⟨⟨r, (k.1, k.2.1, k.2.2.1, k.2.2.2.1, k.2.2.2.2.1, rf1, k.2.2.2.2.2.2.1, k.2.2.2.2.2.2.2.1, k.2.2.2.2.2.2.2.2.1, k.2.2.2.2.2.2.2.2.2.1, k.2.2.2.2.2.2.2.2.2.2.1, k.2.2.2.2.2.2.2.2.2.2.2.1, k.2.2.2.2.2.2.2.2.2.2.2.2.1, k.2.2.2.2.2.2.2.2.2.2.2.2.2), e, ⟨?_, ?_⟩, ?_⟩, hF⟩
  · (rw [hp, qI_vd]) <;> (split <;> rfl)
  · rw [qI_s0]; exact hok
  · rw [qI_s0, qI_thd]; exact hB
set_option maxHeartbeats 4000000 in
set_option maxRecDepth 100000 in
theorem m_X5_away__A (l : Launch) (G : GG) (mc : MAd) (b : AS) (k : MJ) (th : Int32) (az : Bool) (hv : vA b) (hok : okM b k) : MM l G yX5_away cX5_away 3 (some .int) ⟨4, 0, 0, 250⟩ [.ref mc.1, .int (bI az)] (MAW G mc b k th) (Qi_ G (fun (r : Int32) (u : (MJ)) => (r = (qI (decide (¬ awZ b.1.1 b.1.2.1 b.1.2.2.1 b.1.2.2.2.1 b.1.2.2.2.2.1 = 4)) (nI (awZ b.1.1 b.1.2.1 b.1.2.2.1 b.1.2.2.2.1 b.1.2.2.2.2.1)) b b).2.1) ∧ (okM (qI (decide (¬ awZ b.1.1 b.1.2.1 b.1.2.2.1 b.1.2.2.2.1 b.1.2.2.2.2.1 = 4)) (nI (awZ b.1.1 b.1.2.1 b.1.2.2.1 b.1.2.2.2.1 b.1.2.2.2.2.1)) b b).2.2 u)) (fun (u : (MJ)) => (MAW G mc ((qI (decide (¬ awZ b.1.1 b.1.2.1 b.1.2.2.1 b.1.2.2.2.1 b.1.2.2.2.2.1 = 4)) (nI (awZ b.1.1 b.1.2.1 b.1.2.2.1 b.1.2.2.2.1 b.1.2.2.2.2.1)) b b).2.2) u (nI (qI (decide (¬ awZ b.1.1 b.1.2.1 b.1.2.2.1 b.1.2.2.2.1 b.1.2.2.2.2.1 = 4)) (nI (awZ b.1.1 b.1.2.1 b.1.2.2.1 b.1.2.2.2.1 b.1.2.2.2.2.1)) b b).1)))) := by
  obtain ⟨⟨hd, hLR, hKR, hL, hG⟩, hvs, hvh, hvb, hvl, ⟨rn, hrn, hrf⟩⟩ := id hv
  obtain ⟨hH, ⟨hty, hinp⟩, hHT⟩ := id hok
  have hmu := dm_mul hd
  refine (m_X5_away l G mc.1 mc.2 b.1.1 b.1.2.1 b.1.2.2.1 b.1.2.2.2.1 b.1.2.2.2.2.1 b.1.2.2.2.2.2 k.1 k.2.1 (gZ b.2.1) k.2.2.1 b.2.2.1 k.2.2.2.1 k.2.2.2.2.1 b.2.2.2.2.2.2.1 b.2.2.2.2.2.2.2.1 b.2.2.2.2.2.2.2.2 k.2.2.2.2.2.1 k.2.2.2.2.2.2.1 k.2.2.2.2.2.2.2.1 th k.2.2.2.2.2.2.2.2.1 k.2.2.2.2.2.2.2.2.2.1 k.2.2.2.2.2.2.2.2.2.2.1 k.2.2.2.2.2.2.2.2.2.2.2.1 k.2.2.2.2.2.2.2.2.2.2.2.2.1 k.2.2.2.2.2.2.2.2.2.2.2.2.2 (bI az) (by first | assumption | omega) (by first | assumption | omega) (by first | assumption | omega)).mono (fun A a s o t h => ?_)
  obtain ⟨⟨r, ⟨tr1, mv1, fo1⟩, e, hp, hB⟩, hF⟩ := h
  refine ⟨⟨r, (k.1, k.2.1, k.2.2.1, k.2.2.2.1, k.2.2.2.2.1, (if (awZ b.1.1 b.1.2.1 b.1.2.2.1 b.1.2.2.2.1 b.1.2.2.2.2.1) = 4 then false else k.2.2.2.2.2.1), k.2.2.2.2.2.2.1, k.2.2.2.2.2.2.2.1, tr1, mv1, fo1, k.2.2.2.2.2.2.2.2.2.2.2.1, k.2.2.2.2.2.2.2.2.2.2.2.2.1, k.2.2.2.2.2.2.2.2.2.2.2.2.2), e, ⟨?_, ?_⟩, ?_⟩, hF⟩
  · (rw [hp, qI_vn]) <;> (split <;> rfl)
  · rw [qI_s0]; exact hok
  · rw [qI_s0, qI_thn]; exact hB
set_option maxHeartbeats 4000000 in
set_option maxRecDepth 100000 in
theorem m_X5_firstTurn__A (l : Launch) (G : GG) (mc : MAd) (b : AS) (k : MJ) (th : Int32) (hv : vA b) (hok : okM b k) : MM l G yX5_firstTurn cX5_firstTurn 2 (some .int) ⟨4, 0, 0, 250⟩ [.ref mc.1] (MAW G mc b k th) (Qi_ G (fun (r : Int32) (u : (MJ)) => (r = (qI (decide (1 ≤ awZ b.1.1 b.1.2.1 b.1.2.2.1 b.1.2.2.2.1 b.1.2.2.2.2.1 ∧ awZ b.1.1 b.1.2.1 b.1.2.2.1 b.1.2.2.2.1 b.1.2.2.2.2.1 < 4)) (nI (ftN b.1.1 b.1.2.1 b.1.2.2.2.2.1 b.1.2.2.1 b.1.2.2.2.1 (awZ b.1.1 b.1.2.1 b.1.2.2.1 b.1.2.2.2.1 b.1.2.2.2.2.1 - 1))) b b).2.1) ∧ (okM (qI (decide (1 ≤ awZ b.1.1 b.1.2.1 b.1.2.2.1 b.1.2.2.2.1 b.1.2.2.2.2.1 ∧ awZ b.1.1 b.1.2.1 b.1.2.2.1 b.1.2.2.2.1 b.1.2.2.2.2.1 < 4)) (nI (ftN b.1.1 b.1.2.1 b.1.2.2.2.2.1 b.1.2.2.1 b.1.2.2.2.1 (awZ b.1.1 b.1.2.1 b.1.2.2.1 b.1.2.2.2.1 b.1.2.2.2.2.1 - 1))) b b).2.2 u)) (fun (u : (MJ)) => (MAW G mc ((qI (decide (1 ≤ awZ b.1.1 b.1.2.1 b.1.2.2.1 b.1.2.2.2.1 b.1.2.2.2.2.1 ∧ awZ b.1.1 b.1.2.1 b.1.2.2.1 b.1.2.2.2.1 b.1.2.2.2.2.1 < 4)) (nI (ftN b.1.1 b.1.2.1 b.1.2.2.2.2.1 b.1.2.2.1 b.1.2.2.2.1 (awZ b.1.1 b.1.2.1 b.1.2.2.1 b.1.2.2.2.1 b.1.2.2.2.2.1 - 1))) b b).2.2) u (nI (qI (decide (1 ≤ awZ b.1.1 b.1.2.1 b.1.2.2.1 b.1.2.2.2.1 b.1.2.2.2.2.1 ∧ awZ b.1.1 b.1.2.1 b.1.2.2.1 b.1.2.2.2.1 b.1.2.2.2.2.1 < 4)) (nI (ftN b.1.1 b.1.2.1 b.1.2.2.2.2.1 b.1.2.2.1 b.1.2.2.2.1 (awZ b.1.1 b.1.2.1 b.1.2.2.1 b.1.2.2.2.1 b.1.2.2.2.2.1 - 1))) b b).1)))) := by
  obtain ⟨⟨hd, hLR, hKR, hL, hG⟩, hvs, hvh, hvb, hvl, ⟨rn, hrn, hrf⟩⟩ := id hv
  obtain ⟨hH, ⟨hty, hinp⟩, hHT⟩ := id hok
  have hmu := dm_mul hd
  refine (m_X5_firstTurn l G mc.1 mc.2 b.1.1 b.1.2.1 b.1.2.2.1 b.1.2.2.2.1 b.1.2.2.2.2.1 b.1.2.2.2.2.2 k.1 k.2.1 (gZ b.2.1) k.2.2.1 b.2.2.1 k.2.2.2.1 k.2.2.2.2.1 b.2.2.2.2.2.2.1 b.2.2.2.2.2.2.2.1 b.2.2.2.2.2.2.2.2 k.2.2.2.2.2.1 k.2.2.2.2.2.2.1 k.2.2.2.2.2.2.2.1 th k.2.2.2.2.2.2.2.2.1 k.2.2.2.2.2.2.2.2.2.1 k.2.2.2.2.2.2.2.2.2.2.1 k.2.2.2.2.2.2.2.2.2.2.2.1 k.2.2.2.2.2.2.2.2.2.2.2.2.1 k.2.2.2.2.2.2.2.2.2.2.2.2.2 (by first | assumption | omega) (by first | assumption | omega) (by first | assumption | omega)).mono (fun A a s o t h => ?_)
  obtain ⟨⟨r, ⟨tr1, mv1, fo1⟩, e, hp, hB⟩, hF⟩ := h
  refine ⟨⟨r, (k.1, k.2.1, k.2.2.1, k.2.2.2.1, k.2.2.2.2.1, (if 1 ≤ (awZ b.1.1 b.1.2.1 b.1.2.2.1 b.1.2.2.2.1 b.1.2.2.2.2.1) ∧ (awZ b.1.1 b.1.2.1 b.1.2.2.1 b.1.2.2.2.1 b.1.2.2.2.2.1) < 4 then k.2.2.2.2.2.1 else false), k.2.2.2.2.2.2.1, k.2.2.2.2.2.2.2.1, tr1, mv1, fo1, k.2.2.2.2.2.2.2.2.2.2.2.1, k.2.2.2.2.2.2.2.2.2.2.2.2.1, k.2.2.2.2.2.2.2.2.2.2.2.2.2), e, ⟨?_, ?_⟩, ?_⟩, hF⟩
  · (rw [hp, qI_vd]) <;> (split <;> rfl)
  · rw [qI_s0]; exact hok
  · rw [qI_s0, qI_thd]; exact hB
set_option maxHeartbeats 4000000 in
set_option maxRecDepth 100000 in
theorem m_X5_refusal__A (l : Launch) (G : GG) (mc : MAd) (b : AS) (k : MJ) (th : Int32) (az : Bool) (hv : vA b) (hok : okM b k) : MM l G yX5_refusal cX5_refusal 2 (some .int) ⟨1, 0, 0, 21⟩ [.ref mc.1, .int (bI az)] (MAW G mc b k th) (Qi_ G (fun (r : Int32) (u : (MJ)) => (r = (qI (decide (¬ b.2.2.2.2.2.2.2.1 = 0)) (if az = true then b.2.2.2.2.2.2.2.2 else b.2.2.2.2.2.2.2.1) b b).2.1) ∧ (okM (qI (decide (¬ b.2.2.2.2.2.2.2.1 = 0)) (if az = true then b.2.2.2.2.2.2.2.2 else b.2.2.2.2.2.2.2.1) b b).2.2 u)) (fun (u : (MJ)) => (MAW G mc ((qI (decide (¬ b.2.2.2.2.2.2.2.1 = 0)) (if az = true then b.2.2.2.2.2.2.2.2 else b.2.2.2.2.2.2.2.1) b b).2.2) u (nI (qI (decide (¬ b.2.2.2.2.2.2.2.1 = 0)) (if az = true then b.2.2.2.2.2.2.2.2 else b.2.2.2.2.2.2.2.1) b b).1)))) := by
  obtain ⟨⟨hd, hLR, hKR, hL, hG⟩, hvs, hvh, hvb, hvl, ⟨rn, hrn, hrf⟩⟩ := id hv
  obtain ⟨hH, ⟨hty, hinp⟩, hHT⟩ := id hok
  have hmu := dm_mul hd
  refine (m_X5_refusal l G mc.1 mc.2 b.1.1 b.1.2.1 b.1.2.2.1 b.1.2.2.2.1 b.1.2.2.2.2.1 b.1.2.2.2.2.2 k.1 k.2.1 (gZ b.2.1) k.2.2.1 b.2.2.1 k.2.2.2.1 k.2.2.2.2.1 b.2.2.2.2.2.2.1 b.2.2.2.2.2.2.2.1 b.2.2.2.2.2.2.2.2 k.2.2.2.2.2.1 k.2.2.2.2.2.2.1 k.2.2.2.2.2.2.2.1 th k.2.2.2.2.2.2.2.2.1 k.2.2.2.2.2.2.2.2.2.1 k.2.2.2.2.2.2.2.2.2.2.1 k.2.2.2.2.2.2.2.2.2.2.2.1 k.2.2.2.2.2.2.2.2.2.2.2.2.1 k.2.2.2.2.2.2.2.2.2.2.2.2.2 az ).mono (fun A a s o t h => ?_)
  obtain ⟨⟨r, rf1, e, hp, hB⟩, hF⟩ := h
  refine ⟨⟨r, (k.1, k.2.1, k.2.2.1, k.2.2.2.1, k.2.2.2.2.1, rf1, k.2.2.2.2.2.2.1, k.2.2.2.2.2.2.2.1, k.2.2.2.2.2.2.2.2.1, k.2.2.2.2.2.2.2.2.2.1, k.2.2.2.2.2.2.2.2.2.2.1, k.2.2.2.2.2.2.2.2.2.2.2.1, k.2.2.2.2.2.2.2.2.2.2.2.2.1, k.2.2.2.2.2.2.2.2.2.2.2.2.2), e, ⟨?_, ?_⟩, ?_⟩, hF⟩
  · (rw [hp, qI_vn]) <;> (split <;> rfl)
  · rw [qI_s0]; exact hok
  · rw [qI_s0, qI_thn]; exact hB
