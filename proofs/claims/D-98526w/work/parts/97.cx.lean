/-! ===== Math.max, Math.min, Integer.bitCount; what is needed ===== -/
set_option maxRecDepth 100000
/-- nine bits alone -/
def t_m9 (x : Int32) : Prop := ∃ n, n < 512 ∧ x = nI n
theorem t_more_lt {a b : Int32} (h : a < b) : t_more a b = b := if_pos (Int32.le_of_lt h)
theorem t_more_ge {a b : Int32} (h : ¬ a < b) : t_more a b = a := by
  unfold t_more
  split
  · rename_i q
    exact Int32.le_antisymm (Int32.not_lt.mp h) q
  · rfl
theorem t_less_gt {a b : Int32} (h : b < a) : t_less a b = b := if_pos (Int32.le_of_lt h)
theorem t_less_le {a b : Int32} (h : ¬ b < a) : t_less a b = a := by
  unfold t_less
  split
  · rename_i q
    exact Int32.le_antisymm q (Int32.not_lt.mp h)
  · rfl
def S_J12_max : xS := fun as w Q _ => ∃ a b, as = [.int a, .int b] ∧ Q (some (.int (t_more a b))) w
theorem xc_max {Iv : xI} {own : String} {cc : ByteArray} {fr pc idx : Nat} (hdg : decode cc pc = .ok (.invokestatic idx, 3)) (hl : Cond.methodLink own idx Lib.Math.max.name ∈ lw_all) (hfr : 1 ≤ fr) : xm_CallOK Iv own cc fr pc (pc + 3) 2 0 0 S_J12_max := by
  intro p l e R s m args below meth c Qf D dA b A nL C0 hR1 hR2 as rest w K KX H locs cells slots ls hn h8 hS hJ hsz hc hs kk kx
  obtain ⟨hx, hb, hml, hown, hts, hK, hN, hIv, hA, hst, hlk⟩ := id C0
  obtain ⟨x, y, rfl, hk⟩ := hS
  have h8' : ((xm_cs b rest).map fun v => v.category).sum ≤ 10 := by rw [xm_cs_cat, ← xm_ct_eq]; exact h8
  refine va_mmax (rest := xm_cs b rest) hx hb (hml.trans hsz.symm) hown (hts _ hl) (hts _ q286) (hts _ q130) (hts _ q287) (by omega) (by omega) (by omega) (by omega) hdg ?_
  have e : (if x < y then y else x) = t_more x y := by
    split
    · rename_i q; exact (t_more_lt q).symm
    · rename_i q; exact (t_more_ge q).symm
  rw [e]
  exact kk (some (.int (t_more x y))) w H locs hk hJ
def S_J12_min : xS := fun as w Q _ => ∃ a b, as = [.int a, .int b] ∧ Q (some (.int (t_less a b))) w
theorem xc_min {Iv : xI} {own : String} {cc : ByteArray} {fr pc idx : Nat} (hdg : decode cc pc = .ok (.invokestatic idx, 3)) (hl : Cond.methodLink own idx Lib.Math.min.name ∈ lw_all) (hfr : 1 ≤ fr) : xm_CallOK Iv own cc fr pc (pc + 3) 2 0 0 S_J12_min := by
  intro p l e R s m args below meth c Qf D dA b A nL C0 hR1 hR2 as rest w K KX H locs cells slots ls hn h8 hS hJ hsz hc hs kk kx
  obtain ⟨hx, hb, hml, hown, hts, hK, hN, hIv, hA, hst, hlk⟩ := id C0
  obtain ⟨x, y, rfl, hk⟩ := hS
  have h8' : ((xm_cs b rest).map fun v => v.category).sum ≤ 10 := by rw [xm_cs_cat, ← xm_ct_eq]; exact h8
  refine va_mmin (rest := xm_cs b rest) hx hb (hml.trans hsz.symm) hown (hts _ hl) (hts _ q304) (hts _ q130) (hts _ q305) (by omega) (by omega) (by omega) (by omega) hdg ?_
  have e : (if y < x then y else x) = t_less x y := by
    split
    · rename_i q; exact (t_less_gt q).symm
    · rename_i q; exact (t_less_le q).symm
  rw [e]
  exact kk (some (.int (t_less x y))) w H locs hk hJ
abbrev bJ16_bitCount_0 : List xE := [(.iload_n 0, 1, 0, 0, 0), (.iload_n 0, 2, 0, 0, 0), (.iconst 1, 3, 0, 0, 0), (.iushr, 4, 0, 0, 0), (.ldc_w 265, 7, 1431655765, 0, 0), (.iand, 8, 0, 0, 0), (.isub, 9, 0, 0, 0), (.istore_n 0, 10, 0, 0, 0), (.iload_n 0, 11, 0, 0, 0), (.ldc_w 266, 14, 858993459, 0, 0), (.iand, 15, 0, 0, 0), (.iload_n 0, 16, 0, 0, 0), (.iconst 2, 17, 0, 0, 0), (.iushr, 18, 0, 0, 0), (.ldc_w 266, 21, 858993459, 0, 0), (.iand, 22, 0, 0, 0), (.iadd, 23, 0, 0, 0), (.istore_n 0, 24, 0, 0, 0), (.iload_n 0, 25, 0, 0, 0), (.iload_n 0, 26, 0, 0, 0), (.iconst 4, 27, 0, 0, 0), (.iushr, 28, 0, 0, 0), (.iadd, 29, 0, 0, 0), (.ldc_w 267, 32, 252645135, 0, 0), (.iand, 33, 0, 0, 0), (.istore_n 0, 34, 0, 0, 0), (.iload_n 0, 35, 0, 0, 0), (.iload_n 0, 36, 0, 0, 0), (.bipush 8, 38, 0, 0, 0), (.iushr, 39, 0, 0, 0), (.iadd, 40, 0, 0, 0), (.istore_n 0, 41, 0, 0, 0), (.iload_n 0, 42, 0, 0, 0), (.iload_n 0, 43, 0, 0, 0), (.bipush 16, 45, 0, 0, 0), (.iushr, 46, 0, 0, 0), (.iadd, 47, 0, 0, 0), (.istore_n 0, 48, 0, 0, 0), (.iload_n 0, 49, 0, 0, 0), (.bipush 63, 51, 0, 0, 0), (.iand, 52, 0, 0, 0), (.ireturn, 53, 0, 0, 0)]
abbrev kJ16_bitCount : List (Nat × List xE) := [(0, bJ16_bitCount_0)]
abbrev lJ16_bitCount : List (Nat × Nat × Nat × xS) := []
theorem oJ16_bitCount_0  : xm_okb cI RJ16 cJ16_bitCount false 1 lJ16_bitCount bJ16_bitCount_0 0 := xo_0 dJ16_bitCount_0 rfl trivial (xo_0 dJ16_bitCount_1 rfl trivial (xo_0 dJ16_bitCount_2 rfl trivial (xo_0 dJ16_bitCount_3 rfl trivial (xo_0 dJ16_bitCount_4 rfl q849 (xo_0 dJ16_bitCount_7 rfl trivial (xo_0 dJ16_bitCount_8 rfl trivial (xo_0 dJ16_bitCount_9 rfl trivial (xo_0 dJ16_bitCount_10 rfl trivial (xo_0 dJ16_bitCount_11 rfl q850 (xo_0 dJ16_bitCount_14 rfl trivial (xo_0 dJ16_bitCount_15 rfl trivial (xo_0 dJ16_bitCount_16 rfl trivial (xo_0 dJ16_bitCount_17 rfl trivial (xo_0 dJ16_bitCount_18 rfl q850 (xo_0 dJ16_bitCount_21 rfl trivial (xo_0 dJ16_bitCount_22 rfl trivial (xo_0 dJ16_bitCount_23 rfl trivial (xo_0 dJ16_bitCount_24 rfl trivial (xo_0 dJ16_bitCount_25 rfl trivial (xo_0 dJ16_bitCount_26 rfl trivial (xo_0 dJ16_bitCount_27 rfl trivial (xo_0 dJ16_bitCount_28 rfl trivial (xo_0 dJ16_bitCount_29 rfl q851 (xo_0 dJ16_bitCount_32 rfl trivial (xo_0 dJ16_bitCount_33 rfl trivial (xo_0 dJ16_bitCount_34 rfl trivial (xo_0 dJ16_bitCount_35 rfl trivial (xo_0 dJ16_bitCount_36 rfl (xo_bipush (by decide +kernel)) (xo_0 dJ16_bitCount_38 rfl trivial (xo_0 dJ16_bitCount_39 rfl trivial (xo_0 dJ16_bitCount_40 rfl trivial (xo_0 dJ16_bitCount_41 rfl trivial (xo_0 dJ16_bitCount_42 rfl trivial (xo_0 dJ16_bitCount_43 rfl (xo_bipush (by decide +kernel)) (xo_0 dJ16_bitCount_45 rfl trivial (xo_0 dJ16_bitCount_46 rfl trivial (xo_0 dJ16_bitCount_47 rfl trivial (xo_0 dJ16_bitCount_48 rfl trivial (xo_0 dJ16_bitCount_49 rfl (xo_bipush (by decide +kernel)) (xo_0 dJ16_bitCount_51 rfl trivial (xo_0 dJ16_bitCount_52 rfl trivial (xo_n))))))))))))))))))))))))))))))))))))))))))
theorem oJ16_bitCount  : ∀ q ∈ kJ16_bitCount, xm_okb cI RJ16 cJ16_bitCount false 1 lJ16_bitCount q.2 q.1 := by
  intro q hq
  simp only [List.mem_cons, List.not_mem_nil, or_false] at hq
  subst hq
  exact oJ16_bitCount_0  
def S_J16_bitCount : xS := fun as w Q _ => ∃ x, as = [.int x] ∧ t_m9 x ∧ Q (some (.int (t_ones x))) w
theorem body_J16_bitCount : xm_Body 1 0 0 0 [] lJ16_bitCount kJ16_bitCount S_J16_bitCount := by
  intro X avs w Q QX hX0 hS
  have hG := xm_go [] hX0
  have hX := xm_go [] hX0
  clear hX0
  obtain ⟨x, rfl, ⟨n, hn, rfl⟩, hQ⟩ := hS
  refine ⟨rfl, ?_⟩
  repeat' (first
    | ((with_reducible refine @And.intro (vp_in _ _) _ ?_ ?_); (· (first | with_reducible assumption | ((with_reducible refine t_vin ?_); decide) | ((with_reducible refine vp_in_nI ?_ ?_) <;> first | omega | decide) | (simp (disch := omega) only [xl_n, xl_m, nI_dec, nI_sb, nI_add, pk_mul]; (with_reducible refine vp_in_nI ?_ ?_) <;> first | omega | decide))); (conv => whnf))
    | (refine And.intro (by first | with_reducible assumption | exact (show cL _ _ = _ from rfl) | decide) ?_; (conv => whnf))
    | ((with_reducible refine @And.intro (_ = _) _ ?_ ?_); (· rfl); (conv => whnf))
    | ((with_reducible refine @And.intro (@LE.le Nat _ _ _) _ ?_ ?_); (· (first | exact Nat.zero_le _ | exact Nat.le_of_ble_eq_true rfl | omega)); (conv => whnf))
    | ((with_reducible refine @And.intro (@LT.lt Nat _ _ _) _ ?_ ?_); (· omega); (conv => whnf))
    | ((with_reducible refine @And.intro (∃ _, _ = _) _ ?_ ?_); (· exact ⟨_, rfl⟩); (conv => whnf))
    | ((with_reducible refine @And.intro (_ ∨ _) _ ?_ ?_); (· (first | exact Or.inl rfl | exact Or.inr rfl | exact t_b01 _ | assumption)); (conv => whnf))
    | ((with_reducible refine @And.intro (¬ (_ = _)) _ ?_ ?_); (· first | assumption | (with_reducible assumption)); (conv => whnf))
    | (refine hX _ _ _ _ _ _ ?_; (conv => whnf); fail_if_success show False)
    | (rw [c_si]; (conv => whnf))
    | (refine ⟨_, rfl, ?_⟩; (conv => whnf))
    | (refine ⟨_, _, rfl, ?_⟩; (conv => whnf))
    | (refine ⟨_, _, _, rfl, ?_⟩; (conv => whnf))
    | (refine ⟨_, _, _, _, rfl, ?_⟩; (conv => whnf))
    | (refine And.intro (fun c => ?_) (fun c => ?_) <;> (first | (exact absurd c (by decide +kernel)) | (conv => whnf)))
    | fail)
  refine t_q hQ ?_
  clear hX hG hQ
  revert n
  decide +kernel
theorem ct_J16_bitCount : xm_Ct cI yJ16_bitCount (ws_ yJ16_bitCount cJ16_bitCount 1 (some .int)) 1 0 0 S_J16_bitCount := xm_enter (rt := 0) (init := false) (by decide +kernel) rfl (fun h => by cases h) (Or.inl ⟨rfl, rfl⟩) (oJ16_bitCount) body_J16_bitCount
theorem cv_J16_bitCount {own : String} {cc : ByteArray} {fr pc idx : Nat} (hdg : decode cc pc = .ok (.invokestatic idx, 3)) (hl : xm_ml own idx yJ16_bitCount) (hfr : 1 < fr) : xm_CallOK cI own cc fr pc (pc + 3) 1 0 0 S_J16_bitCount := xm_callS cI_good (ct_J16_bitCount) hdg hl q847 q136 q848 (by decide +kernel) hfr (by decide)
theorem th_need : ∀ q ∈ [(15, 0)], xm_thrOK RX1 cX1_need q.1 q.2 := by
  intro q hq
  rw [List.mem_singleton] at hq
  subst hq
  exact ⟨120, 122, by decide +kernel, q1034, q124, at_0.1, at_0.2, dX1_need_15, dX1_need_18, dX1_need_19, dX1_need_22⟩
abbrev bX1_need_0 : List xE := [(.iload_n 1, 1, 0, 0, 0), (.ifCond .eq 4, 4, 0, 5, 0), (.return_, 5, 0, 0, 0)]
abbrev bX1_need_5 : List xE := [(.aload_n 0, 6, 0, 0, 0), (.getfield 50, 9, 0, 4, 1), (.iconst 1, 10, 0, 0, 0), (.dup2, 11, 0, 0, 0), (.iaload, 12, 0, 0, 0), (.iconst 1, 13, 0, 0, 0), (.iadd, 14, 0, 0, 0), (.iastore, 15, 0, 0, 0)]
abbrev kX1_need : List (Nat × List xE) := [(0, bX1_need_0), (5, bX1_need_5)]
abbrev lX1_need : List (Nat × Nat × Nat × xS) := []
theorem oX1_need_0  : xm_okb cI RX1 cX1_need false 6 lX1_need bX1_need_0 0 := xo_0 dX1_need_0 rfl trivial (xo_0 dX1_need_1 rfl rfl (xo_0 dX1_need_4 rfl trivial (xo_n)))
theorem oX1_need_5  : xm_okb cI RX1 cX1_need false 6 lX1_need bX1_need_5 5 := xo_0 dX1_need_5 rfl trivial (xo_1 dX1_need_6 rfl (xm_fg_of (Or.inl q723) (by decide) rfl (by decide) rfl rfl (Or.inl rfl) rfl) (xo_0 dX1_need_9 rfl trivial (xo_0 dX1_need_10 rfl trivial (xo_0 dX1_need_11 rfl trivial (xo_0 dX1_need_12 rfl trivial (xo_0 dX1_need_13 rfl trivial (xo_0 dX1_need_14 rfl trivial (xo_n))))))))
theorem oX1_need  : ∀ q ∈ kX1_need, xm_okb cI RX1 cX1_need false 6 lX1_need q.2 q.1 := by
  intro q hq
  simp only [List.mem_cons, List.not_mem_nil, or_false] at hq
  rcases hq with rfl | rfl
  · exact oX1_need_0  
  · exact oX1_need_5  
def S_X1_need : xS := cU fun as P X I Q QX => ∃ z : Bool, as = [.ref 0, .int (t_b z)] ∧ (z = true → Q none I) ∧ (z = false → ∀ a, 1000 ≤ a → QX 0 a (xm_u2 I 4 1 (I 4 1 + nI 1)))
theorem body_X1_need : xm_BodyT 2 2 1 6 lX1_need kX1_need [(15, 0)] S_X1_need := by
  intro X avs w Q QX hX0 hT hS
  have hG := xm_go [] hX0
  have hX := xm_go [] hX0
  clear hX0
  obtain ⟨P, Z, I, rfl, z, rfl, h1, h2⟩ := hS
  refine ⟨rfl, ?_⟩
  repeat' (first
    | ((with_reducible refine @And.intro (vp_in _ _) _ ?_ ?_); (· (first | with_reducible assumption | ((with_reducible refine t_vin ?_); decide) | ((with_reducible refine vp_in_nI ?_ ?_) <;> first | omega | decide) | (simp (disch := omega) only [xl_n, xl_m, nI_dec, nI_sb, nI_add, pk_mul]; (with_reducible refine vp_in_nI ?_ ?_) <;> first | omega | decide))); (conv => whnf))
    | (refine And.intro (by first | with_reducible assumption | exact (show cL _ _ = _ from rfl) | decide) ?_; (conv => whnf))
    | ((with_reducible refine @And.intro (_ = _) _ ?_ ?_); (· rfl); (conv => whnf))
    | ((with_reducible refine @And.intro (@LE.le Nat _ _ _) _ ?_ ?_); (· (first | exact Nat.zero_le _ | exact Nat.le_of_ble_eq_true rfl | omega)); (conv => whnf))
    | ((with_reducible refine @And.intro (@LT.lt Nat _ _ _) _ ?_ ?_); (· omega); (conv => whnf))
    | ((with_reducible refine @And.intro (∃ _, _ = _) _ ?_ ?_); (· exact ⟨_, rfl⟩); (conv => whnf))
    | ((with_reducible refine @And.intro (_ ∨ _) _ ?_ ?_); (· (first | exact Or.inl rfl | exact Or.inr rfl | exact t_b01 _ | assumption)); (conv => whnf))
    | ((with_reducible refine @And.intro (¬ (_ = _)) _ ?_ ?_); (· first | assumption | (with_reducible assumption)); (conv => whnf))
    | (refine hX _ _ _ _ _ _ ?_; (conv => whnf); fail_if_success show False)
    | (rw [c_si]; (conv => whnf))
    | (refine ⟨_, rfl, ?_⟩; (conv => whnf))
    | (refine ⟨_, _, rfl, ?_⟩; (conv => whnf))
    | (refine ⟨_, _, _, rfl, ?_⟩; (conv => whnf))
    | (refine ⟨_, _, _, _, rfl, ?_⟩; (conv => whnf))
    | (refine And.intro (fun c => ?_) (fun c => ?_) <;> (first | (exact absurd c (by decide +kernel)) | (conv => whnf)))
    | fail)
  · exact hT (15, 0) (by simp) _ _ _ _ _ (by decide) (by decide) (by decide) (h2 ((t_b0 z).mp c))
  · refine h1 ?_
    cases z with
    | true => rfl
    | false => exact absurd (show t_b false = 0 by decide +kernel) c
theorem ct_X1_need : xm_Ct cI yX1_need (ws_ yX1_need cX1_need 2 none) 6 1 6 S_X1_need := xm_enterT (rt := 2) (init := false) (by decide +kernel) rfl (fun h => by cases h) (Or.inr (Or.inr (Or.inl ⟨rfl, rfl⟩))) (oX1_need) (by decide) th_need body_X1_need
theorem cv_X1_need {own : String} {cc : ByteArray} {fr pc idx : Nat} (hdg : decode cc pc = .ok (.invokevirtual idx, 3)) (hl : xm_ml own idx yX1_need) (hfr : 6 < fr) : xm_CallOK cI own cc fr pc (pc + 3) 2 1 6 (xm_this 0 S_X1_need) := xm_callV 0 cI_good (ct_X1_need) hdg hl q1032 qs16 q116 q1033 rfl rfl (by decide +kernel) hfr (by decide)
theorem th_needThere : ∀ q ∈ [(20, 1)], xm_thrOK RX1 cX1_needThere q.1 q.2 := by
  intro q hq
  rw [List.mem_singleton] at hq
  subst hq
  exact ⟨123, 125, by decide +kernel, q1584, q156, at_1.1, at_1.2, dX1_needThere_20, dX1_needThere_23, dX1_needThere_24, dX1_needThere_27⟩
abbrev bX1_needThere_0 : List xE := [(.iload_n 1, 1, 0, 0, 0), (.ifCond .lt 9, 4, 0, 10, 0), (.iload_n 1, 5, 0, 0, 0), (.iload_n 2, 6, 0, 0, 0), (.if_icmp .ge 4, 9, 0, 10, 0), (.return_, 10, 0, 0, 0)]
abbrev bX1_needThere_10 : List xE := [(.aload_n 0, 11, 0, 0, 0), (.getfield 50, 14, 0, 4, 1), (.iconst 0, 15, 0, 0, 0), (.dup2, 16, 0, 0, 0), (.iaload, 17, 0, 0, 0), (.iconst 1, 18, 0, 0, 0), (.iadd, 19, 0, 0, 0), (.iastore, 20, 0, 0, 0)]
abbrev kX1_needThere : List (Nat × List xE) := [(0, bX1_needThere_0), (10, bX1_needThere_10)]
abbrev lX1_needThere : List (Nat × Nat × Nat × xS) := []
theorem oX1_needThere_0  : xm_okb cI RX1 cX1_needThere false 6 lX1_needThere bX1_needThere_0 0 := xo_0 dX1_needThere_0 rfl trivial (xo_0 dX1_needThere_1 rfl rfl (xo_0 dX1_needThere_4 rfl trivial (xo_0 dX1_needThere_5 rfl trivial (xo_0 dX1_needThere_6 rfl rfl (xo_0 dX1_needThere_9 rfl trivial (xo_n))))))
theorem oX1_needThere_10  : xm_okb cI RX1 cX1_needThere false 6 lX1_needThere bX1_needThere_10 10 := xo_0 dX1_needThere_10 rfl trivial (xo_1 dX1_needThere_11 rfl (xm_fg_of (Or.inl q723) (by decide) rfl (by decide) rfl rfl (Or.inl rfl) rfl) (xo_0 dX1_needThere_14 rfl trivial (xo_0 dX1_needThere_15 rfl trivial (xo_0 dX1_needThere_16 rfl trivial (xo_0 dX1_needThere_17 rfl trivial (xo_0 dX1_needThere_18 rfl trivial (xo_0 dX1_needThere_19 rfl trivial (xo_n))))))))
theorem oX1_needThere  : ∀ q ∈ kX1_needThere, xm_okb cI RX1 cX1_needThere false 6 lX1_needThere q.2 q.1 := by
  intro q hq
  simp only [List.mem_cons, List.not_mem_nil, or_false] at hq
  rcases hq with rfl | rfl
  · exact oX1_needThere_0  
  · exact oX1_needThere_10  
/-- there, or refused -/
def c_there (v : Int32) (n : Nat) (Q : Option Value → tI → Prop) (QX : Nat → Nat → tI → Prop) (I : tI) : Prop := (t_in v (nI 0) (nI n - nI 1) = true → Q none I) ∧ (t_in v (nI 0) (nI n - nI 1) = false → ∀ a, 1000 ≤ a → QX 1 a (xm_u2 I 4 0 (I 4 0 + nI 1)))
def S_X1_needThere : xS := cU fun as P X I Q QX => ∃ v n, as = [.ref 0, .int v, .int (nI n)] ∧ n < 2 ^ 31 ∧ c_there v n Q QX I
theorem t_in_mk {v : Int32} {n k : Nat} (hn : n < 2 ^ 31) (hk : k < n) (e : v = nI k) : t_in v (nI 0) (nI n - nI 1) = true := by
  subst e
  obtain ⟨n, rfl⟩ : ∃ n', n = n' + 1 := ⟨n - 1, by omega⟩
  rw [nI_sb]
  unfold t_in
  rw [decide_eq_true ((nI_leI (by omega) (by omega)).mpr (Nat.zero_le k)), decide_eq_true ((nI_leI (by omega) (by omega)).mpr (by omega))]
  rfl
theorem t_in_no {v : Int32} {n : Nat} (hn : n < 2 ^ 31) (h : v < 0 ∨ nI n ≤ v) : t_in v (nI 0) (nI n - nI 1) = false := by
  rw [Bool.eq_false_iff]
  intro q
  obtain ⟨k, hk, rfl⟩ := t_in_of hn q
  rcases h with h | h
  · exact absurd h (nI_nn (by omega)).1
  · rw [nI_leI (by omega) (by omega)] at h
    omega
theorem t_in_yes {v : Int32} {n : Nat} (hn : n < 2 ^ 31) (h1 : ¬ v < 0) (h2 : ¬ nI n ≤ v) : t_in v (nI 0) (nI n - nI 1) = true := by
  obtain ⟨k, hk, rfl⟩ := nI_of (x := v) h1
  refine t_in_mk hn ?_ rfl
  rcases Nat.lt_or_ge k n with q | q
  · exact q
  · exact absurd (nI_le q hk) h2
theorem body_X1_needThere : xm_BodyT 3 2 1 6 lX1_needThere kX1_needThere [(20, 1)] S_X1_needThere := by
  intro X avs w Q QX hX0 hT hS
  have hG := xm_go [] hX0
  have hX := xm_go [] hX0
  clear hX0
  obtain ⟨P, Z, I, rfl, v, n, rfl, hn, h1, h2⟩ := hS
  refine ⟨rfl, ?_⟩
  repeat' (first
    | ((with_reducible refine @And.intro (vp_in _ _) _ ?_ ?_); (· (first | with_reducible assumption | ((with_reducible refine t_vin ?_); decide) | ((with_reducible refine vp_in_nI ?_ ?_) <;> first | omega | decide) | (simp (disch := omega) only [xl_n, xl_m, nI_dec, nI_sb, nI_add, pk_mul]; (with_reducible refine vp_in_nI ?_ ?_) <;> first | omega | decide))); (conv => whnf))
    | (refine And.intro (by first | with_reducible assumption | exact (show cL _ _ = _ from rfl) | decide) ?_; (conv => whnf))
    | ((with_reducible refine @And.intro (_ = _) _ ?_ ?_); (· rfl); (conv => whnf))
    | ((with_reducible refine @And.intro (@LE.le Nat _ _ _) _ ?_ ?_); (· (first | exact Nat.zero_le _ | exact Nat.le_of_ble_eq_true rfl | omega)); (conv => whnf))
    | ((with_reducible refine @And.intro (@LT.lt Nat _ _ _) _ ?_ ?_); (· omega); (conv => whnf))
    | ((with_reducible refine @And.intro (∃ _, _ = _) _ ?_ ?_); (· exact ⟨_, rfl⟩); (conv => whnf))
    | ((with_reducible refine @And.intro (_ ∨ _) _ ?_ ?_); (· (first | exact Or.inl rfl | exact Or.inr rfl | exact t_b01 _ | assumption)); (conv => whnf))
    | ((with_reducible refine @And.intro (¬ (_ = _)) _ ?_ ?_); (· first | assumption | (with_reducible assumption)); (conv => whnf))
    | (refine hX _ _ _ _ _ _ ?_; (conv => whnf); fail_if_success show False)
    | (rw [c_si]; (conv => whnf))
    | (refine ⟨_, rfl, ?_⟩; (conv => whnf))
    | (refine ⟨_, _, rfl, ?_⟩; (conv => whnf))
    | (refine ⟨_, _, _, rfl, ?_⟩; (conv => whnf))
    | (refine ⟨_, _, _, _, rfl, ?_⟩; (conv => whnf))
    | (refine And.intro (fun c => ?_) (fun c => ?_) <;> (first | (exact absurd c (by decide +kernel)) | (conv => whnf)))
    | fail)
  · exact hT (20, 1) (by simp) _ _ _ _ _ (by decide) (by decide) (by decide) (h2 (t_in_no hn (Or.inl (by assumption))))
  · exact hT (20, 1) (by simp) _ _ _ _ _ (by decide) (by decide) (by decide) (h2 (t_in_no hn (Or.inr (by assumption))))
  · exact h1 (t_in_yes hn (by assumption) (by assumption))
theorem ct_X1_needThere : xm_Ct cI yX1_needThere (ws_ yX1_needThere cX1_needThere 3 none) 6 1 6 S_X1_needThere := xm_enterT (rt := 2) (init := false) (by decide +kernel) rfl (fun h => by cases h) (Or.inr (Or.inr (Or.inl ⟨rfl, rfl⟩))) (oX1_needThere) (by decide) th_needThere body_X1_needThere
theorem cv_X1_needThere {own : String} {cc : ByteArray} {fr pc idx : Nat} (hdg : decode cc pc = .ok (.invokevirtual idx, 3)) (hl : xm_ml own idx yX1_needThere) (hfr : 6 < fr) : xm_CallOK cI own cc fr pc (pc + 3) 3 1 6 (xm_this 0 S_X1_needThere) := xm_callV 0 cI_good (ct_X1_needThere) hdg hl q1582 qs37 q116 q1583 rfl rfl (by decide +kernel) hfr (by decide)
