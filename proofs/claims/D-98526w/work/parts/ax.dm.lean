/-! ===== the component: feeding ===== -/
set_option maxRecDepth 100000
set_option maxHeartbeats 1000000
theorem t_byte255 (x : Int32) : x.toInt8.toInt32 &&& nI 255 = x &&& nI 255 := by
  refine b_ext fun i hi => ?_
  rw [b_and, b_and, show nI 255 = 255 from rfl, b_255]
  by_cases h : i < 8
  · have e : bt x.toInt8.toInt32 i = bt x i := by
      unfold bt
      rw [Int8.toBitVec_toInt32, Int32.toBitVec_toInt8, BitVec.getLsbD_signExtend, if_pos h, BitVec.getLsbD_signExtend, if_pos hi, decide_eq_true h, decide_eq_true hi, Bool.true_and, Bool.true_and]
    rw [e]
  · rw [decide_eq_false h, Bool.and_false, Bool.and_false]
/-- n bytes are put at t -/
def c_pt (I J : tI) (t n : Nat) (f : Nat → Int32) : Prop := (∀ b : Nat, b ≠ 0 → b ≠ 16 → J b = I b) ∧ (∀ k : Nat, k ≠ 13 → J 0 k = I 0 k) ∧ J 0 13 = nI (t + n) ∧ (∀ j, j < t → J 16 j = I 16 j) ∧ ∀ i, i < n → J 16 (t + i) &&& nI 255 = f i
theorem c_pt.tr {I J K : tI} {t n m : Nat} {f g : Nat → Int32} (h : c_pt I J t n f) (h2 : c_pt J K (t + n) m g) : c_pt I K t (n + m) (fun i => if i < n then f i else g (i - n)) := by
  obtain ⟨a1, a2, a3, a4, a5⟩ := h
  obtain ⟨b1, b2, b3, b4, b5⟩ := h2
  refine ⟨fun b p q => (b1 b p q).trans (a1 b p q), fun k p => (b2 k p).trans (a2 k p), by rw [b3, Nat.add_assoc], fun j hj => (b4 j (by omega)).trans (a4 j hj), fun i hi => ?_⟩
  show _ = if i < n then f i else g (i - n)
  by_cases q : i < n
  · rw [if_pos q, b4 _ (by omega)]
    exact a5 i q
  · rw [if_neg q]
    have := b5 (i - n) (by omega)
    rw [show t + n + (i - n) = t + i by omega] at this
    exact this
def c_dn (k : Nat) : Int32 := if k < 4 then nI (24 - 8 * k) else Int32.ofInt (-8)
theorem c_dn_s : ∀ k, k < 4 → nI (24 - 8 * k) + Int32.ofInt (-8) = c_dn (k + 1) := by decide +kernel
abbrev bX1_put_0 : List xE := [(.bipush 24, 2, 0, 0, 0), (.istore_n 2, 3, 0, 0, 0)]
abbrev bX1_put_3 : List xE := [(.iload_n 2, 4, 0, 0, 0), (.ifCond .lt 32, 7, 0, 36, 0), (.aload_n 0, 8, 0, 0, 0), (.getfield 79, 11, 0, 16, 1), (.aload_n 0, 12, 0, 0, 0), (.getfield 146, 15, 0, 13, 0), (.iload_n 1, 16, 0, 0, 0), (.iload_n 2, 17, 0, 0, 0), (.ishr, 18, 0, 0, 0), (.i2b, 19, 0, 0, 0), (.bastore, 20, 0, 0, 0), (.aload_n 0, 21, 0, 0, 0), (.dup, 22, 0, 0, 0), (.getfield 146, 25, 0, 13, 0), (.iconst 1, 26, 0, 0, 0), (.iadd, 27, 0, 0, 0), (.putfield 146, 30, 0, 13, 0), (.iinc 2 (-8), 33, 0, 0, 0), (.goto (-30), 36, 0, 3, 0)]
abbrev bX1_put_36 : List xE := [(.return_, 37, 0, 0, 0)]
abbrev kX1_put : List (Nat × List xE) := [(0, bX1_put_0), (3, bX1_put_3), (36, bX1_put_36)]
abbrev lX1_put : List (Nat × Nat × Nat × xS) := []
theorem oX1_put_0  : xm_okb cI RX1 cX1_put false 1 lX1_put bX1_put_0 0 := xo_0 dX1_put_0 rfl (xo_bipush (by decide +kernel)) (xo_0 dX1_put_2 rfl trivial (xo_n))
theorem oX1_put_3  : xm_okb cI RX1 cX1_put false 1 lX1_put bX1_put_3 3 := xo_0 dX1_put_3 rfl trivial (xo_0 dX1_put_4 rfl rfl (xo_0 dX1_put_7 rfl trivial (xo_1 dX1_put_8 rfl (xm_fg_of (Or.inl q735) (by decide) rfl (by decide) rfl rfl (Or.inl rfl) rfl) (xo_0 dX1_put_11 rfl trivial (xo_0 dX1_put_12 rfl (xm_fg_of (Or.inl q732) (by decide) rfl (by decide) rfl rfl (Or.inl rfl) rfl) (xo_0 dX1_put_15 rfl trivial (xo_0 dX1_put_16 rfl trivial (xo_0 dX1_put_17 rfl trivial (xo_0 dX1_put_18 rfl trivial (xo_0 dX1_put_19 rfl trivial (xo_0 dX1_put_20 rfl trivial (xo_0 dX1_put_21 rfl trivial (xo_0 dX1_put_22 rfl (xm_fg_of (Or.inl q732) (by decide) rfl (by decide) rfl rfl (Or.inl rfl) rfl) (xo_0 dX1_put_25 rfl trivial (xo_0 dX1_put_26 rfl trivial (xo_0 dX1_put_27 rfl (xm_fp_of (xm_fg_of (Or.inl q732) (by decide) rfl (by decide) rfl rfl (Or.inl rfl) rfl) (by decide) rfl (Or.inl ⟨rfl, rfl⟩) rfl) (xo_0 dX1_put_30 rfl trivial (xo_0 dX1_put_33 rfl rfl (xo_n)))))))))))))))))))
theorem oX1_put_36  : xm_okb cI RX1 cX1_put false 1 lX1_put bX1_put_36 36 := xo_0 dX1_put_36 rfl trivial (xo_n)
theorem oX1_put  : ∀ q ∈ kX1_put, xm_okb cI RX1 cX1_put false 1 lX1_put q.2 q.1 := by
  intro q hq
  simp only [List.mem_cons, List.not_mem_nil, or_false] at hq
  rcases hq with rfl | rfl | rfl
  · exact oX1_put_0  
  · exact oX1_put_3  
  · exact oX1_put_36  
def S_X1_put : xS := cU fun as P Z I Q QX => ∃ (v : Int32) (t : Nat), as = [.ref 0, .int v] ∧ I 0 13 = nI t ∧ t + 4 ≤ 600 ∧ ∀ J, c_pt I J t 4 (g_byte v) → Q none J
theorem body_X1_put : xm_Body 3 2 0 0 [] lX1_put kX1_put S_X1_put := by
  intro X avs w Q QX hX0 hS
  have hG := xm_go [] hX0
  have hX := xm_go [3] hX0
  clear hX0
  obtain ⟨P, Z, I, rfl, v, t, rfl, ht, h600, hQ⟩ := hS
  have loop : ∀ k, k ≤ 4 → ∀ M, c_pt I M t k (g_byte v) → X 3 [some (.ref 0), some (.int v), some (.int (c_dn k))] [] (cW P Z M) 0 0 := by
    refine t_for fun k h1 ih M hM => ?_
    by_cases hk : k = 4
    · subst hk
      have d1 : c_dn 4 < 0 := by decide +kernel
      clear ih
      refine hG _ _ _ _ _ _ ?_
      (conv => whnf)
      repeat' (first
        | ((with_reducible refine @And.intro (vp_in _ _) _ ?_ ?_); (· (first | with_reducible assumption | ((with_reducible refine t_vin ?_); decide) | ((with_reducible refine vp_in_nI ?_ ?_) <;> first | omega | decide) | (simp (disch := omega) only [xl_n, xl_m, nI_dec, nI_sb, nI_add, pk_mul]; (with_reducible refine vp_in_nI ?_ ?_) <;> first | omega | decide))); (conv => whnf))
        | (refine And.intro (by first | with_reducible assumption | exact (show cL _ _ = _ from rfl) | decide) ?_; (conv => whnf))
        | ((with_reducible refine @And.intro (_ = _) _ ?_ ?_); (· rfl); (conv => whnf))
        | ((with_reducible refine @And.intro (@LE.le Nat _ _ _) _ ?_ ?_); (· (first | exact Nat.zero_le _ | exact Nat.le_of_ble_eq_true rfl | omega)); (conv => whnf))
        | ((with_reducible refine @And.intro (@LT.lt Nat _ _ _) _ ?_ ?_); (· omega); (conv => whnf))
        | ((with_reducible refine @And.intro (∃ _, _ = _) _ ?_ ?_); (· exact ⟨_, rfl⟩); (conv => whnf))
        | ((with_reducible refine @And.intro (_ ∨ _) _ ?_ ?_); (· (first | exact Or.inl rfl | exact Or.inr rfl | exact t_b01 _ | assumption)); (conv => whnf))
        | ((with_reducible refine @And.intro (¬ (_ = _)) _ ?_ ?_); (· first | assumption | (with_reducible assumption)); (conv => whnf))
        | (refine hX _ _ _ _ _ _ ?_; (conv => whnf); fail_if_success show False)
        | (rw [c_si]; (conv => whnf))
        | (refine ⟨_, rfl, ?_⟩; (conv => whnf))
        | (refine ⟨_, _, rfl, ?_⟩; (conv => whnf))
        | (refine ⟨_, _, _, rfl, ?_⟩; (conv => whnf))
        | (refine ⟨_, _, _, _, rfl, ?_⟩; (conv => whnf))
        | (refine And.intro (fun c => ?_) (fun c => ?_) <;> (first | (exact absurd c (by decide +kernel)) | (exact absurd c (by assumption)) | (exact False.elim (c (by assumption))) | (conv => whnf)))
        | fail)
      exact hQ M hM
    · have ed : c_dn k = nI (24 - 8 * k) := if_pos (by omega)
      have d1 : ¬ nI (24 - 8 * k) < 0 := (nI_nn (by omega)).1
      obtain ⟨m1, m2, m3, m4, m5⟩ := id hM
      have en := c_dn_s k (by omega)
      have em : (cW P Z M).2.1 0 13 = nI (t + k) := m3
      have ec : (nI (t + k)).toNatClampNeg = t + k := nI_clamp (by omega)
      have ew : nI (t + k) + Int32.ofInt 1 = nI (t + k + 1) := by rw [xl_n.2.1, nI_add]
      have eb : vp_nar (xm_aty 101) (v >>> (nI (24 - 8 * k) &&& 31)).toInt8.toInt32 = (v >>> (nI (24 - 8 * k) &&& 31)).toInt8.toInt32 := pk_vb _
      have nx := ih (k + 1) (by omega) (by omega) (xm_u2 (xm_u2 M 16 (t + k) ((v >>> (nI (24 - 8 * k) &&& 31)).toInt8.toInt32)) 0 13 (nI (t + k + 1))) ⟨fun b p q => by rw [← m1 b p q]; exact funext fun j => by rw [xm_u2_ne p, xm_u2_ne q], fun j hj => by rw [xm_u2_at, if_neg hj, xm_u2_ne (by decide)]; exact m2 j hj, by rw [xm_u2_at, if_pos rfl]; rfl, fun j hj => by rw [xm_u2_ne (by decide), xm_u2_at, if_neg (by omega)]; exact m4 j hj, fun i hi => by
        rw [xm_u2_ne (by decide), xm_u2_at]
        by_cases q : i = k
        · subst q
          rw [if_pos rfl, t_byte255]
          rfl
        · rw [if_neg (by omega)]
          exact m5 i (by omega)⟩
      clear ih
      rw [← en] at nx
      rw [ed]
      refine hG _ _ _ _ _ _ ?_
      (conv => whnf)
      repeat' (first
        | ((with_reducible refine @And.intro (vp_in _ _) _ ?_ ?_); (· (first | with_reducible assumption | ((with_reducible refine t_vin ?_); decide) | ((with_reducible refine vp_in_nI ?_ ?_) <;> first | omega | decide) | (simp (disch := omega) only [xl_n, xl_m, nI_dec, nI_sb, nI_add, pk_mul]; (with_reducible refine vp_in_nI ?_ ?_) <;> first | omega | decide))); (conv => whnf))
        | (refine And.intro (by first | with_reducible assumption | exact (show cL _ _ = _ from rfl) | decide) ?_; (conv => whnf))
        | ((with_reducible refine @And.intro (_ = _) _ ?_ ?_); (· rfl); (conv => whnf))
        | ((with_reducible refine @And.intro (@LE.le Nat _ _ _) _ ?_ ?_); (· (first | exact Nat.zero_le _ | exact Nat.le_of_ble_eq_true rfl | omega)); (conv => whnf))
        | ((with_reducible refine @And.intro (@LT.lt Nat _ _ _) _ ?_ ?_); (· omega); (conv => whnf))
        | ((with_reducible refine @And.intro (∃ _, _ = _) _ ?_ ?_); (· exact ⟨_, rfl⟩); (conv => whnf))
        | ((with_reducible refine @And.intro (_ ∨ _) _ ?_ ?_); (· (first | exact Or.inl rfl | exact Or.inr rfl | exact t_b01 _ | assumption)); (conv => whnf))
        | ((with_reducible refine @And.intro (¬ (_ = _)) _ ?_ ?_); (· first | assumption | (with_reducible assumption)); (conv => whnf))
        | (refine hX _ _ _ _ _ _ ?_; (conv => whnf); fail_if_success show False)
        | (rw [c_si]; (conv => whnf))
        | (refine ⟨_, rfl, ?_⟩; (conv => whnf))
        | (refine ⟨_, _, rfl, ?_⟩; (conv => whnf))
        | (refine ⟨_, _, _, rfl, ?_⟩; (conv => whnf))
        | (refine ⟨_, _, _, _, rfl, ?_⟩; (conv => whnf))
        | (rw [em]; (conv => whnf))
        | (rw [ec]; (conv => whnf))
        | (refine And.intro (fun c => ?_) (fun c => ?_) <;> (first | (exact absurd c (by decide +kernel)) | (exact absurd c (by assumption)) | (exact False.elim (c (by assumption))) | (conv => whnf)))
        | fail)
      clear hX hG hQ
      simp (disch := first | omega | decide) only [xm_set, xm_lv0, cW_i, eb, xm_u2_ne, m3, ew]
      exact nx
  have fin := loop 0 (Nat.zero_le _) I ⟨fun _ _ _ => rfl, fun _ _ => rfl, ht, fun _ _ => rfl, fun i hi => by omega⟩
  clear loop
  refine ⟨rfl, ?_⟩
  repeat' (first
    | ((with_reducible refine @And.intro (vp_in _ _) _ ?_ ?_); (· (first | with_reducible assumption | ((with_reducible refine t_vin ?_); decide) | ((with_reducible refine vp_in_nI ?_ ?_) <;> first | omega | decide) | (simp (disch := omega) only [xl_n, xl_m, nI_dec, nI_sb, nI_add, pk_mul]; (with_reducible refine vp_in_nI ?_ ?_) <;> first | omega | decide))); (conv => whnf))
    | (refine And.intro (by first | with_reducible assumption | exact (show cL _ _ = _ from rfl) | decide) ?_; (conv => whnf))
    | ((with_reducible refine @And.intro (_ = _) _ ?_ ?_); (· rfl); (conv => whnf))
    | ((with_reducible refine @And.intro (@LE.le Nat _ _ _) _ ?_ ?_); (· (first | exact Nat.zero_le _ | exact Nat.le_of_ble_eq_true rfl | omega)); (conv => whnf))
    | ((with_reducible refine @And.intro (@LT.lt Nat _ _ _) _ ?_ ?_); (· omega); (conv => whnf))
    | ((with_reducible refine @And.intro (∃ _, _ = _) _ ?_ ?_); (· exact ⟨_, rfl⟩); (conv => whnf))
    | ((with_reducible refine @And.intro (_ ∨ _) _ ?_ ?_); (· (first | exact Or.inl rfl | exact Or.inr rfl | exact t_b01 _ | assumption)); (conv => whnf))
    | ((with_reducible refine @And.intro (¬ (_ = _)) _ ?_ ?_); (· first | assumption | (with_reducible assumption)); (conv => whnf))
    | (refine hX _ _ _ _ _ _ ?_; (conv => whnf); fail_if_success show False)
    | (rw [c_si]; (conv => whnf))
    | (refine ⟨_, rfl, ?_⟩; (conv => whnf))
    | (refine ⟨_, _, rfl, ?_⟩; (conv => whnf))
    | (refine ⟨_, _, _, rfl, ?_⟩; (conv => whnf))
    | (refine ⟨_, _, _, _, rfl, ?_⟩; (conv => whnf))
    | (refine And.intro (fun c => ?_) (fun c => ?_) <;> (first | (exact absurd c (by decide +kernel)) | (conv => whnf)))
    | fail)
  exact fin
theorem ct_X1_put : xm_Ct cI yX1_put (ws_ yX1_put cX1_put 3 none) 1 0 0 S_X1_put := xm_enter (rt := 2) (init := false) (by decide +kernel) rfl (fun h => by cases h) (Or.inr (Or.inr (Or.inl ⟨rfl, rfl⟩))) (oX1_put) body_X1_put
theorem cv_X1_put {own : String} {cc : ByteArray} {fr pc idx : Nat} (hdg : decode cc pc = .ok (.invokevirtual idx, 3)) (hl : xm_ml own idx yX1_put) (hfr : 1 < fr) : xm_CallOK cI own cc fr pc (pc + 3) 2 0 0 (xm_this 0 S_X1_put) := xm_callV 0 cI_good (ct_X1_put) hdg hl q792 qs3 q116 q793 rfl rfl (by decide +kernel) hfr (by decide)
theorem c_pt.G {P : cP} {Z : cX} {I J : tI} {L : List lC} {t n : Nat} {f : Nat → Int32} (h : c_pt I J t n f) (hg : c_good P Z I L) (ht : c_tp I = t) (h600 : t + n ≤ 600) : c_good P Z J L ∧ cG P J L = g_tape (cG P I L) (t + n) (fun k => if k < t then gfed (cG P I L) k else if k < t + n then f (k - t) else nI 0) := by
  obtain ⟨f', f0, e13, h16, h16'⟩ := h
  obtain ⟨g1, g2, g3, g4, g5, g6, g7, g8, g9, g10, g11⟩ := id hg
  have fb : ∀ b : Nat, b ≠ 0 → b ≠ 16 → J b = I b := f'
  have ehp : c_h J = c_h I ∧ c_p J = c_p I := by
    unfold c_h c_p
    rw [fb 1 (by omega) (by omega)]
    exact ⟨rfl, rfl⟩
  have eok : c_ok J := by
    unfold c_ok c_h c_p at *
    rw [fb 1 (by omega) (by omega)]
    exact g1
  have eK : cK J L = cK I L := cK_eq (fb 1 (by omega) (by omega)) (fun b h1 h2 => fb b (by omega) (by omega)) (f0 9 (by omega)) (f0 10 (by omega))
  have eam : c_am P J = c_am P I := funext fun a => p_ic fun q => by rw [fb (80 + a) (by omega) (by omega)]
  have eY : cY P J = cY P I := by
    unfold cY
    rw [eam, fb 33 (by omega) (by omega), fb 34 (by omega) (by omega)]
    have e1 : (fun a => if a < P.1 then J (80 + a) 0 else nI 0) = (fun a => if a < P.1 then I (80 + a) 0 else nI 0) := funext fun a => p_ic fun q => by rw [fb (80 + a) (by omega) (by omega)]
    have e2 : (fun a i => if i < c_am P I a then (J (90 + a) i).toNatClampNeg else 0) = (fun a i => if i < c_am P I a then (I (90 + a) i).toNatClampNeg else 0) := funext fun a => funext fun i => p_ic fun q => by rw [fb (90 + a) (by omega) (by omega)]
    rw [e1, e2]
  have eA : ∀ r : Nat, 4 ≤ r → r ≠ 16 → cA J r = cA I r := fun r hr h => cA_eq (fun k hk => fb _ (by omega) (by omega)) (by rw [fb r (by omega) h])
  have td : ∀ r : Nat, 4 ≤ r → r ≠ 16 → c_td I r → c_td J r := fun r hr h ht => ⟨fun k hk => by
    rw [ehp.1] at hk
    rw [eA r hr h, fb (10 * r) (by omega) (by omega), fb 31 (by omega) (by omega), fb r (by omega) h]
    exact ht.1 k hk, by rw [eA r hr h]; exact ht.2⟩
  have eim : c_im J = c_im I := by unfold c_im; rw [f0 15 (by omega)]
  have el : c_l J = c_l I := by unfold c_l; rw [f0 11 (by omega)]
  have et : c_tp J = t + n := by unfold c_tp; rw [e13, nI_clamp (by omega)]
  refine ⟨⟨eok, g2.eq fun a ha => fb a (by omega) (by omega), ⟨g3.1, by rw [fb 40 (by omega) (by omega)]; exact g3.2.1, g3.2.2⟩, fun a ha => ?_, by rw [f0 9 (by omega)]; exact g5, by rw [eim, f0 15 (by omega)]; exact g6, ?_, ⟨by rw [et]; exact e13, by omega⟩, td 5 (by omega) (by omega) g9, td 6 (by omega) (by omega) g10, fun k hk => ?_⟩, ?_⟩
  · have h6 := g3.1
    have eb : g_bits (cG P J L) a = g_bits (cG P I L) a := g_bits_x eY
    rw [eam, fb (80 + a) (by omega) (by omega), fb (90 + a) (by omega) (by omega), eb, ehp.2]
    exact g4 a ha
  · unfold c_lnok
    rw [el, f0 11 (by omega), ehp.1, ehp.2, fb 3 (by omega) (by omega)]
    exact g7
  · rw [eim] at hk
    have := g6.2.2
    exact td _ (by omega) (by omega) (g11 k hk)
  · have eb : c_bT J = c_bT I := by
      unfold c_bT
      rw [fb 37 (by omega) (by omega), fb 38 (by omega) (by omega)]
    have h3 := g6.2.2
    unfold cG g_tape g_setN
    rw [eK, eY]
    unfold cN
    rw [eb, eim, el, et, fb 3 (by omega) (by omega), fb 4 (by omega) (by omega), f0 14 (by omega), fb 5 (by omega) (by omega), fb 6 (by omega) (by omega), eA 5 (by omega) (by omega), eA 6 (by omega) (by omega)]
    have e : (fun k => if k < c_im I then cA J (10 + k) else c_bT I) = (fun k => if k < c_im I then cA I (10 + k) else c_bT I) := funext fun k => p_ic fun q => by
      have := g6.2.2
      exact eA _ (by omega) (by omega)
    have e2 : (fun k => if k < t + n then J 16 k &&& nI 255 else nI 0) = (fun k => if k < t then gfed (cG P I L) k else if k < t + n then f (k - t) else nI 0) := funext fun k => by
      by_cases q : k < t
      · rw [if_pos q, if_pos (by omega), h16 k q]
        exact (if_pos (show k < c_tp I by omega)).symm
      · rw [if_neg q]
        refine p_ic fun z => ?_
        have := h16' (k - t) (by omega)
        rw [show t + (k - t) = k by omega] at this
        exact this
    rw [e, e2]
    rfl
abbrev bX1_feed_0 : List xE := [(.aload_n 0, 1, 0, 0, 0), (.getfield 146, 4, 0, 13, 0), (.bipush 20, 6, 0, 0, 0), (.iadd, 7, 0, 0, 0), (.sipush 600, 10, 0, 0, 0), (.if_icmp .le 5, 13, 0, 15, 0), (.iconst (-1), 14, 0, 0, 0), (.ireturn, 15, 0, 0, 0)]
abbrev bX1_feed_15 : List xE := [(.aload_n 0, 16, 0, 0, 0), (.iload_n 1, 17, 0, 0, 0), (.invokevirtual 149, 20, 0, 0, 9), (.aload_n 0, 21, 0, 0, 0), (.iload_n 2, 22, 0, 0, 0), (.invokevirtual 149, 25, 0, 0, 9), (.aload_n 0, 26, 0, 0, 0), (.iload_n 3, 27, 0, 0, 0), (.invokevirtual 149, 30, 0, 0, 9), (.aload_n 0, 31, 0, 0, 0), (.iload 4, 33, 0, 0, 0), (.invokevirtual 149, 36, 0, 0, 9), (.aload_n 0, 37, 0, 0, 0), (.iload 5, 39, 0, 0, 0), (.invokevirtual 149, 42, 0, 0, 9), (.aload_n 0, 43, 0, 0, 0), (.getfield 146, 46, 0, 13, 0), (.ireturn, 47, 0, 0, 0)]
abbrev kX1_feed : List (Nat × List xE) := [(0, bX1_feed_0), (15, bX1_feed_15)]
abbrev lX1_feed : List (Nat × Nat × Nat × xS) := [(2, 0, 0, xm_this 0 S_X1_put)]
theorem oX1_feed_0  : xm_okb cI RX1 cX1_feed false 2 lX1_feed bX1_feed_0 0 := xo_0 dX1_feed_0 rfl trivial (xo_0 dX1_feed_1 rfl (xm_fg_of (Or.inl q732) (by decide) rfl (by decide) rfl rfl (Or.inl rfl) rfl) (xo_0 dX1_feed_4 rfl (xo_bipush (by decide +kernel)) (xo_0 dX1_feed_6 rfl trivial (xo_0 dX1_feed_7 rfl (xo_sipush (by decide +kernel)) (xo_0 dX1_feed_10 rfl rfl (xo_0 dX1_feed_13 rfl trivial (xo_0 dX1_feed_14 rfl trivial (xo_n))))))))
theorem oX1_feed_15  : xm_okb cI RX1 cX1_feed false 2 lX1_feed bX1_feed_15 15 := xo_0 dX1_feed_15 rfl trivial (xo_0 dX1_feed_16 rfl trivial (xo_c rfl (cv_X1_put dX1_feed_17 (Or.inl q790) (by decide)) (xo_0 dX1_feed_20 rfl trivial (xo_0 dX1_feed_21 rfl trivial (xo_c rfl (cv_X1_put dX1_feed_22 (Or.inl q790) (by decide)) (xo_0 dX1_feed_25 rfl trivial (xo_0 dX1_feed_26 rfl trivial (xo_c rfl (cv_X1_put dX1_feed_27 (Or.inl q790) (by decide)) (xo_0 dX1_feed_30 rfl trivial (xo_0 dX1_feed_31 rfl trivial (xo_c rfl (cv_X1_put dX1_feed_33 (Or.inl q790) (by decide)) (xo_0 dX1_feed_36 rfl trivial (xo_0 dX1_feed_37 rfl trivial (xo_c rfl (cv_X1_put dX1_feed_39 (Or.inl q790) (by decide)) (xo_0 dX1_feed_42 rfl trivial (xo_0 dX1_feed_43 rfl (xm_fg_of (Or.inl q732) (by decide) rfl (by decide) rfl rfl (Or.inl rfl) rfl) (xo_0 dX1_feed_46 rfl trivial (xo_n))))))))))))))))))
theorem oX1_feed  : ∀ q ∈ kX1_feed, xm_okb cI RX1 cX1_feed false 2 lX1_feed q.2 q.1 := by
  intro q hq
  simp only [List.mem_cons, List.not_mem_nil, or_false] at hq
  rcases hq with rfl | rfl
  · exact oX1_feed_0  
  · exact oX1_feed_15  
def S_X1_feed : xS := cU fun as P Z I Q QX => ∃ a b c d e L, as = [.ref 0, .int a, .int b, .int c, .int d, .int e] ∧ c_good P Z I L ∧ c_P P Z L (cG P I L) Q QX (q_feed (cG P I L) a b c d e)
theorem body_X1_feed : xm_Body 6 0 0 0 [] lX1_feed kX1_feed S_X1_feed := by
  intro X avs w Q QX hX0 hS
  have hG := xm_go [] hX0
  have hX := xm_go [] hX0
  clear hX0
  obtain ⟨P, Z, I, rfl, va, vb, vc, vd, ve, L, rfl, hg, hQ⟩ := hS
  obtain ⟨h13, h600⟩ := hg.2.2.2.2.2.2.2.1
  have egt : gtape (cG P I L) = c_tp I := rfl
  have e20 : I 0 13 + Int32.ofInt 20 = nI (c_tp I + 20) := by rw [h13, show Int32.ofInt 20 = nI 20 by decide +kernel, nI_add]
  rw [q_feed, egt] at hQ
  refine ⟨rfl, ?_⟩
  by_cases q : c_tp I + 20 ≤ 600
  · have d1 : I 0 13 + Int32.ofInt 20 ≤ Int32.ofInt 600 := by
      rw [e20, show Int32.ofInt 600 = nI 600 by decide +kernel, nI_leI (by omega) (by omega)]
      exact q
    rw [if_pos q] at hQ
    generalize et : c_tp I = t at *
    have t1 : t + 4 ≤ 600 := by omega
    repeat' (first
      | ((with_reducible refine @And.intro (vp_in _ _) _ ?_ ?_); (· (first | with_reducible assumption | ((with_reducible refine t_vin ?_); decide) | ((with_reducible refine vp_in_nI ?_ ?_) <;> first | omega | decide) | (simp (disch := omega) only [xl_n, xl_m, nI_dec, nI_sb, nI_add, pk_mul]; (with_reducible refine vp_in_nI ?_ ?_) <;> first | omega | decide))); (conv => whnf))
      | (refine And.intro (by first | with_reducible assumption | exact (show cL _ _ = _ from rfl) | decide) ?_; (conv => whnf))
      | ((with_reducible refine @And.intro (_ = _) _ ?_ ?_); (· rfl); (conv => whnf))
      | ((with_reducible refine @And.intro (@LE.le Nat _ _ _) _ ?_ ?_); (· (first | exact Nat.zero_le _ | exact Nat.le_of_ble_eq_true rfl | omega)); (conv => whnf))
      | ((with_reducible refine @And.intro (@LT.lt Nat _ _ _) _ ?_ ?_); (· omega); (conv => whnf))
      | ((with_reducible refine @And.intro (∃ _, _ = _) _ ?_ ?_); (· exact ⟨_, rfl⟩); (conv => whnf))
      | ((with_reducible refine @And.intro (_ ∨ _) _ ?_ ?_); (· (first | exact Or.inl rfl | exact Or.inr rfl | exact t_b01 _ | assumption)); (conv => whnf))
      | ((with_reducible refine @And.intro (¬ (_ = _)) _ ?_ ?_); (· first | assumption | (with_reducible assumption)); (conv => whnf))
      | (refine hX _ _ _ _ _ _ ?_; (conv => whnf); fail_if_success show False)
      | (rw [c_si]; (conv => whnf))
      | (refine ⟨_, rfl, ?_⟩; (conv => whnf))
      | (refine ⟨_, _, rfl, ?_⟩; (conv => whnf))
      | (refine ⟨_, _, _, rfl, ?_⟩; (conv => whnf))
      | (refine ⟨_, _, _, _, rfl, ?_⟩; (conv => whnf))
      | (refine ⟨va,t,rfl,h13,t1,?_⟩; (conv => whnf))
      | (refine And.intro (fun c => ?_) (fun c => ?_) <;> (first | (exact absurd c (by decide +kernel)) | (exact absurd c (by assumption)) | (exact False.elim (c (by assumption))) | (conv => whnf)))
      | fail)
    intro J1 p1
    have t2 : t + 4 + 4 ≤ 600 := by omega
    have h2 := p1.2.2.1
    (conv => whnf)
    repeat' (first
      | ((with_reducible refine @And.intro (vp_in _ _) _ ?_ ?_); (· (first | with_reducible assumption | ((with_reducible refine t_vin ?_); decide) | ((with_reducible refine vp_in_nI ?_ ?_) <;> first | omega | decide) | (simp (disch := omega) only [xl_n, xl_m, nI_dec, nI_sb, nI_add, pk_mul]; (with_reducible refine vp_in_nI ?_ ?_) <;> first | omega | decide))); (conv => whnf))
      | (refine And.intro (by first | with_reducible assumption | exact (show cL _ _ = _ from rfl) | decide) ?_; (conv => whnf))
      | ((with_reducible refine @And.intro (_ = _) _ ?_ ?_); (· rfl); (conv => whnf))
      | ((with_reducible refine @And.intro (@LE.le Nat _ _ _) _ ?_ ?_); (· (first | exact Nat.zero_le _ | exact Nat.le_of_ble_eq_true rfl | omega)); (conv => whnf))
      | ((with_reducible refine @And.intro (@LT.lt Nat _ _ _) _ ?_ ?_); (· omega); (conv => whnf))
      | ((with_reducible refine @And.intro (∃ _, _ = _) _ ?_ ?_); (· exact ⟨_, rfl⟩); (conv => whnf))
      | ((with_reducible refine @And.intro (_ ∨ _) _ ?_ ?_); (· (first | exact Or.inl rfl | exact Or.inr rfl | exact t_b01 _ | assumption)); (conv => whnf))
      | ((with_reducible refine @And.intro (¬ (_ = _)) _ ?_ ?_); (· first | assumption | (with_reducible assumption)); (conv => whnf))
      | (refine hX _ _ _ _ _ _ ?_; (conv => whnf); fail_if_success show False)
      | (rw [c_si]; (conv => whnf))
      | (refine ⟨_, rfl, ?_⟩; (conv => whnf))
      | (refine ⟨_, _, rfl, ?_⟩; (conv => whnf))
      | (refine ⟨_, _, _, rfl, ?_⟩; (conv => whnf))
      | (refine ⟨_, _, _, _, rfl, ?_⟩; (conv => whnf))
      | (refine ⟨vb,t+4,rfl,h2,t2,?_⟩; (conv => whnf))
      | (refine And.intro (fun c => ?_) (fun c => ?_) <;> (first | (exact absurd c (by decide +kernel)) | (exact absurd c (by assumption)) | (exact False.elim (c (by assumption))) | (conv => whnf)))
      | fail)
    intro J2 p2
    have p2 := p1.tr p2
    have t3 : t + (4 + 4) + 4 ≤ 600 := by omega
    have h3 := p2.2.2.1
    (conv => whnf)
    repeat' (first
      | ((with_reducible refine @And.intro (vp_in _ _) _ ?_ ?_); (· (first | with_reducible assumption | ((with_reducible refine t_vin ?_); decide) | ((with_reducible refine vp_in_nI ?_ ?_) <;> first | omega | decide) | (simp (disch := omega) only [xl_n, xl_m, nI_dec, nI_sb, nI_add, pk_mul]; (with_reducible refine vp_in_nI ?_ ?_) <;> first | omega | decide))); (conv => whnf))
      | (refine And.intro (by first | with_reducible assumption | exact (show cL _ _ = _ from rfl) | decide) ?_; (conv => whnf))
      | ((with_reducible refine @And.intro (_ = _) _ ?_ ?_); (· rfl); (conv => whnf))
      | ((with_reducible refine @And.intro (@LE.le Nat _ _ _) _ ?_ ?_); (· (first | exact Nat.zero_le _ | exact Nat.le_of_ble_eq_true rfl | omega)); (conv => whnf))
      | ((with_reducible refine @And.intro (@LT.lt Nat _ _ _) _ ?_ ?_); (· omega); (conv => whnf))
      | ((with_reducible refine @And.intro (∃ _, _ = _) _ ?_ ?_); (· exact ⟨_, rfl⟩); (conv => whnf))
      | ((with_reducible refine @And.intro (_ ∨ _) _ ?_ ?_); (· (first | exact Or.inl rfl | exact Or.inr rfl | exact t_b01 _ | assumption)); (conv => whnf))
      | ((with_reducible refine @And.intro (¬ (_ = _)) _ ?_ ?_); (· first | assumption | (with_reducible assumption)); (conv => whnf))
      | (refine hX _ _ _ _ _ _ ?_; (conv => whnf); fail_if_success show False)
      | (rw [c_si]; (conv => whnf))
      | (refine ⟨_, rfl, ?_⟩; (conv => whnf))
      | (refine ⟨_, _, rfl, ?_⟩; (conv => whnf))
      | (refine ⟨_, _, _, rfl, ?_⟩; (conv => whnf))
      | (refine ⟨_, _, _, _, rfl, ?_⟩; (conv => whnf))
      | (refine ⟨vc,t+(4+4),rfl,h3,t3,?_⟩; (conv => whnf))
      | (refine And.intro (fun c => ?_) (fun c => ?_) <;> (first | (exact absurd c (by decide +kernel)) | (exact absurd c (by assumption)) | (exact False.elim (c (by assumption))) | (conv => whnf)))
      | fail)
    intro J3 p3
    have p3 := p2.tr p3
    have t4 : t + (4 + 4 + 4) + 4 ≤ 600 := by omega
    have h4 := p3.2.2.1
    (conv => whnf)
    repeat' (first
      | ((with_reducible refine @And.intro (vp_in _ _) _ ?_ ?_); (· (first | with_reducible assumption | ((with_reducible refine t_vin ?_); decide) | ((with_reducible refine vp_in_nI ?_ ?_) <;> first | omega | decide) | (simp (disch := omega) only [xl_n, xl_m, nI_dec, nI_sb, nI_add, pk_mul]; (with_reducible refine vp_in_nI ?_ ?_) <;> first | omega | decide))); (conv => whnf))
      | (refine And.intro (by first | with_reducible assumption | exact (show cL _ _ = _ from rfl) | decide) ?_; (conv => whnf))
      | ((with_reducible refine @And.intro (_ = _) _ ?_ ?_); (· rfl); (conv => whnf))
      | ((with_reducible refine @And.intro (@LE.le Nat _ _ _) _ ?_ ?_); (· (first | exact Nat.zero_le _ | exact Nat.le_of_ble_eq_true rfl | omega)); (conv => whnf))
      | ((with_reducible refine @And.intro (@LT.lt Nat _ _ _) _ ?_ ?_); (· omega); (conv => whnf))
      | ((with_reducible refine @And.intro (∃ _, _ = _) _ ?_ ?_); (· exact ⟨_, rfl⟩); (conv => whnf))
      | ((with_reducible refine @And.intro (_ ∨ _) _ ?_ ?_); (· (first | exact Or.inl rfl | exact Or.inr rfl | exact t_b01 _ | assumption)); (conv => whnf))
      | ((with_reducible refine @And.intro (¬ (_ = _)) _ ?_ ?_); (· first | assumption | (with_reducible assumption)); (conv => whnf))
      | (refine hX _ _ _ _ _ _ ?_; (conv => whnf); fail_if_success show False)
      | (rw [c_si]; (conv => whnf))
      | (refine ⟨_, rfl, ?_⟩; (conv => whnf))
      | (refine ⟨_, _, rfl, ?_⟩; (conv => whnf))
      | (refine ⟨_, _, _, rfl, ?_⟩; (conv => whnf))
      | (refine ⟨_, _, _, _, rfl, ?_⟩; (conv => whnf))
      | (refine ⟨vd,t+(4+4+4),rfl,h4,t4,?_⟩; (conv => whnf))
      | (refine And.intro (fun c => ?_) (fun c => ?_) <;> (first | (exact absurd c (by decide +kernel)) | (exact absurd c (by assumption)) | (exact False.elim (c (by assumption))) | (conv => whnf)))
      | fail)
    intro J4 p4
    have p4 := p3.tr p4
    have t5 : t + (4 + 4 + 4 + 4) + 4 ≤ 600 := by omega
    have h5 := p4.2.2.1
    (conv => whnf)
    repeat' (first
      | ((with_reducible refine @And.intro (vp_in _ _) _ ?_ ?_); (· (first | with_reducible assumption | ((with_reducible refine t_vin ?_); decide) | ((with_reducible refine vp_in_nI ?_ ?_) <;> first | omega | decide) | (simp (disch := omega) only [xl_n, xl_m, nI_dec, nI_sb, nI_add, pk_mul]; (with_reducible refine vp_in_nI ?_ ?_) <;> first | omega | decide))); (conv => whnf))
      | (refine And.intro (by first | with_reducible assumption | exact (show cL _ _ = _ from rfl) | decide) ?_; (conv => whnf))
      | ((with_reducible refine @And.intro (_ = _) _ ?_ ?_); (· rfl); (conv => whnf))
      | ((with_reducible refine @And.intro (@LE.le Nat _ _ _) _ ?_ ?_); (· (first | exact Nat.zero_le _ | exact Nat.le_of_ble_eq_true rfl | omega)); (conv => whnf))
      | ((with_reducible refine @And.intro (@LT.lt Nat _ _ _) _ ?_ ?_); (· omega); (conv => whnf))
      | ((with_reducible refine @And.intro (∃ _, _ = _) _ ?_ ?_); (· exact ⟨_, rfl⟩); (conv => whnf))
      | ((with_reducible refine @And.intro (_ ∨ _) _ ?_ ?_); (· (first | exact Or.inl rfl | exact Or.inr rfl | exact t_b01 _ | assumption)); (conv => whnf))
      | ((with_reducible refine @And.intro (¬ (_ = _)) _ ?_ ?_); (· first | assumption | (with_reducible assumption)); (conv => whnf))
      | (refine hX _ _ _ _ _ _ ?_; (conv => whnf); fail_if_success show False)
      | (rw [c_si]; (conv => whnf))
      | (refine ⟨_, rfl, ?_⟩; (conv => whnf))
      | (refine ⟨_, _, rfl, ?_⟩; (conv => whnf))
      | (refine ⟨_, _, _, rfl, ?_⟩; (conv => whnf))
      | (refine ⟨_, _, _, _, rfl, ?_⟩; (conv => whnf))
      | (refine ⟨ve,t+(4+4+4+4),rfl,h5,t5,?_⟩; (conv => whnf))
      | (refine And.intro (fun c => ?_) (fun c => ?_) <;> (first | (exact absurd c (by decide +kernel)) | (exact absurd c (by assumption)) | (exact False.elim (c (by assumption))) | (conv => whnf)))
      | fail)
    intro J5 p5
    have p5 := p4.tr p5
    obtain ⟨gJ, eG⟩ := p5.G hg et (by omega)
    (conv => whnf)
    repeat' (first
      | ((with_reducible refine @And.intro (vp_in _ _) _ ?_ ?_); (· (first | with_reducible assumption | ((with_reducible refine t_vin ?_); decide) | ((with_reducible refine vp_in_nI ?_ ?_) <;> first | omega | decide) | (simp (disch := omega) only [xl_n, xl_m, nI_dec, nI_sb, nI_add, pk_mul]; (with_reducible refine vp_in_nI ?_ ?_) <;> first | omega | decide))); (conv => whnf))
      | (refine And.intro (by first | with_reducible assumption | exact (show cL _ _ = _ from rfl) | decide) ?_; (conv => whnf))
      | ((with_reducible refine @And.intro (_ = _) _ ?_ ?_); (· rfl); (conv => whnf))
      | ((with_reducible refine @And.intro (@LE.le Nat _ _ _) _ ?_ ?_); (· (first | exact Nat.zero_le _ | exact Nat.le_of_ble_eq_true rfl | omega)); (conv => whnf))
      | ((with_reducible refine @And.intro (@LT.lt Nat _ _ _) _ ?_ ?_); (· omega); (conv => whnf))
      | ((with_reducible refine @And.intro (∃ _, _ = _) _ ?_ ?_); (· exact ⟨_, rfl⟩); (conv => whnf))
      | ((with_reducible refine @And.intro (_ ∨ _) _ ?_ ?_); (· (first | exact Or.inl rfl | exact Or.inr rfl | exact t_b01 _ | assumption)); (conv => whnf))
      | ((with_reducible refine @And.intro (¬ (_ = _)) _ ?_ ?_); (· first | assumption | (with_reducible assumption)); (conv => whnf))
      | (refine hX _ _ _ _ _ _ ?_; (conv => whnf); fail_if_success show False)
      | (rw [c_si]; (conv => whnf))
      | (refine ⟨_, rfl, ?_⟩; (conv => whnf))
      | (refine ⟨_, _, rfl, ?_⟩; (conv => whnf))
      | (refine ⟨_, _, _, rfl, ?_⟩; (conv => whnf))
      | (refine ⟨_, _, _, _, rfl, ?_⟩; (conv => whnf))
      | (refine And.intro (fun c => ?_) (fun c => ?_) <;> (first | (exact absurd c (by decide +kernel)) | (conv => whnf)))
      | fail)
    have fin := hQ.1 J5 gJ (by
      rw [eG]
      congr 1
      funext k
      by_cases q1 : k < t
      · rw [if_pos q1, if_pos q1]
      · rw [if_neg q1, if_neg q1]
        refine p_ic fun q2 => ?_
        have : ∀ j, j < 20 → (if j < 4 + 4 + 4 + 4 then if j < 4 + 4 + 4 then if j < 4 + 4 then if j < 4 then g_byte va j else g_byte vb (j - 4) else g_byte vc (j - (4 + 4)) else g_byte vd (j - (4 + 4 + 4)) else g_byte ve (j - (4 + 4 + 4 + 4))) = g_fedv va vb vc vd ve j := by
          intro j hj
          have hh : j = 0 ∨ j = 1 ∨ j = 2 ∨ j = 3 ∨ j = 4 ∨ j = 5 ∨ j = 6 ∨ j = 7 ∨ j = 8 ∨ j = 9 ∨ j = 10 ∨ j = 11 ∨ j = 12 ∨ j = 13 ∨ j = 14 ∨ j = 15 ∨ j = 16 ∨ j = 17 ∨ j = 18 ∨ j = 19 := by omega
          rcases hh with rfl | rfl | rfl | rfl | rfl | rfl | rfl | rfl | rfl | rfl | rfl | rfl | rfl | rfl | rfl | rfl | rfl | rfl | rfl | rfl <;> rfl
        exact this (k - t) (by omega)) rfl
    have e : nI (t + 20) = J5 0 13 := p5.2.2.1.symm
    rw [show (nI (t + 20) : Int32) = J5 0 13 from e] at fin
    exact fin
  · have d1 : ¬ I 0 13 + Int32.ofInt 20 ≤ Int32.ofInt 600 := by
      rw [e20, show Int32.ofInt 600 = nI 600 by decide +kernel, nI_leI (by omega) (by omega)]
      exact q
    rw [if_neg q] at hQ
    repeat' (first
      | ((with_reducible refine @And.intro (vp_in _ _) _ ?_ ?_); (· (first | with_reducible assumption | ((with_reducible refine t_vin ?_); decide) | ((with_reducible refine vp_in_nI ?_ ?_) <;> first | omega | decide) | (simp (disch := omega) only [xl_n, xl_m, nI_dec, nI_sb, nI_add, pk_mul]; (with_reducible refine vp_in_nI ?_ ?_) <;> first | omega | decide))); (conv => whnf))
      | (refine And.intro (by first | with_reducible assumption | exact (show cL _ _ = _ from rfl) | decide) ?_; (conv => whnf))
      | ((with_reducible refine @And.intro (_ = _) _ ?_ ?_); (· rfl); (conv => whnf))
      | ((with_reducible refine @And.intro (@LE.le Nat _ _ _) _ ?_ ?_); (· (first | exact Nat.zero_le _ | exact Nat.le_of_ble_eq_true rfl | omega)); (conv => whnf))
      | ((with_reducible refine @And.intro (@LT.lt Nat _ _ _) _ ?_ ?_); (· omega); (conv => whnf))
      | ((with_reducible refine @And.intro (∃ _, _ = _) _ ?_ ?_); (· exact ⟨_, rfl⟩); (conv => whnf))
      | ((with_reducible refine @And.intro (_ ∨ _) _ ?_ ?_); (· (first | exact Or.inl rfl | exact Or.inr rfl | exact t_b01 _ | assumption)); (conv => whnf))
      | ((with_reducible refine @And.intro (¬ (_ = _)) _ ?_ ?_); (· first | assumption | (with_reducible assumption)); (conv => whnf))
      | (refine hX _ _ _ _ _ _ ?_; (conv => whnf); fail_if_success show False)
      | (rw [c_si]; (conv => whnf))
      | (refine ⟨_, rfl, ?_⟩; (conv => whnf))
      | (refine ⟨_, _, rfl, ?_⟩; (conv => whnf))
      | (refine ⟨_, _, _, rfl, ?_⟩; (conv => whnf))
      | (refine ⟨_, _, _, _, rfl, ?_⟩; (conv => whnf))
      | (refine And.intro (fun c => ?_) (fun c => ?_) <;> (first | (exact absurd c (by decide +kernel)) | (exact absurd c (by assumption)) | (exact False.elim (c (by assumption))) | (conv => whnf)))
      | fail)
    exact c_ask hQ hg c_sp.rf xl_m
theorem ct_X1_feed : xm_Ct cI yX1_feed (ws_ yX1_feed cX1_feed 6 (some .int)) 2 0 0 S_X1_feed := xm_enter (rt := 0) (init := false) (by decide +kernel) rfl (fun h => by cases h) (Or.inl ⟨rfl, rfl⟩) (oX1_feed) body_X1_feed
theorem cv_X1_feed {own : String} {cc : ByteArray} {fr pc idx : Nat} (hdg : decode cc pc = .ok (.invokevirtual idx, 3)) (hl : xm_ml own idx yX1_feed) (hfr : 2 < fr) : xm_CallOK cI own cc fr pc (pc + 3) 6 0 0 (xm_this 0 S_X1_feed) := xm_callV 0 cI_good (ct_X1_feed) hdg hl q787 q788 q116 q789 rfl rfl (by decide +kernel) hfr (by decide)
