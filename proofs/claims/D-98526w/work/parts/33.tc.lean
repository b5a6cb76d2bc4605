/-! ===== the reference's rows are written; the law's answer ===== -/
set_option maxRecDepth 100000
def t_off (r : Nat) (I J : tI) : Prop := ∀ b, b ≠ r → J b = I b
theorem t_off.rf {r : Nat} {I : tI} : t_off r I I := fun _ _ => rfl
theorem t_off.tr {r : Nat} {I J L : tI} (h : t_off r I J) (h2 : t_off r J L) : t_off r I L := fun b hb => (h2 b hb).trans (h b hb)
theorem t_off.u {r k : Nat} {v : Int32} {I : tI} : t_off r I (xm_u2 I r k v) := fun b hb => funext fun j => xm_u2_ne hb j
theorem t_off.ok {r : Nat} {I J : tI} (h : t_off r I J) (hr : t_row r) (hok : t_ok I) : t_ok J := t_ok_eq hok (h 12 (Ne.symm (t_row_ne hr)))
theorem t_row_0 {r : Nat} (h : t_row r) : r ≠ 0 := by have := t_row_in h; omega
theorem t_row_lb {r : Nat} (h : t_row r) : ∀ k, k < 160 → 200 + k ≠ r := by have := t_row_in h; intro k hk; omega
theorem t_off.lok {r : Nat} {I J : tI} (h : t_off r I J) (hr : t_row r) (hl : t_lok I) : t_lok J := t_lok_eq hl (fun k hk => h _ (t_row_lb hr k hk)) (by rw [h 0 (Ne.symm (t_row_0 hr))])
theorem t_off.K {r : Nat} {I J : tI} (h : t_off r I J) (hr : t_row r) (hok : t_ok I) (hl : t_lok I) : tK J = tK I :=
  tK_eq hok hl (fun b hb => h b (fun e => t_row_fx hr (e ▸ hb))) (by rw [h 0 (Ne.symm (t_row_0 hr))])
abbrev bX11_ceases_0 : List xE := [(.aload_n 1, 1, 0, 0, 0), (.iconst 1, 2, 0, 0, 0), (.iload_n 2, 3, 0, 0, 0), (.iadd, 4, 0, 0, 0), (.dup2, 5, 0, 0, 0), (.iaload, 6, 0, 0, 0), (.iconst 1, 7, 0, 0, 0), (.iload_n 3, 8, 0, 0, 0), (.ishl, 9, 0, 0, 0), (.iconst (-1), 10, 0, 0, 0), (.ixor, 11, 0, 0, 0), (.iand, 12, 0, 0, 0), (.iastore, 13, 0, 0, 0), (.aload_n 1, 14, 0, 0, 0), (.bipush 17, 16, 0, 0, 0), (.iload_n 2, 17, 0, 0, 0), (.iadd, 18, 0, 0, 0), (.iload_n 3, 19, 0, 0, 0), (.iastore, 20, 0, 0, 0), (.return_, 21, 0, 0, 0)]
abbrev kX11_ceases : List (Nat × List xE) := [(0, bX11_ceases_0)]
abbrev lX11_ceases : List (Nat × Nat × Nat × xS) := []
theorem oX11_ceases_0 {Iv : xI} (hI : xm_good Iv)  : xm_okb Iv RX11 cX11_ceases false 1 lX11_ceases bX11_ceases_0 0 := xo_0 dX11_ceases_0 rfl trivial (xo_0 dX11_ceases_1 rfl trivial (xo_0 dX11_ceases_2 rfl trivial (xo_0 dX11_ceases_3 rfl trivial (xo_0 dX11_ceases_4 rfl trivial (xo_0 dX11_ceases_5 rfl trivial (xo_0 dX11_ceases_6 rfl trivial (xo_0 dX11_ceases_7 rfl trivial (xo_0 dX11_ceases_8 rfl trivial (xo_0 dX11_ceases_9 rfl trivial (xo_0 dX11_ceases_10 rfl trivial (xo_0 dX11_ceases_11 rfl trivial (xo_0 dX11_ceases_12 rfl trivial (xo_0 dX11_ceases_13 rfl trivial (xo_0 dX11_ceases_14 rfl (xo_bipush (by decide +kernel)) (xo_0 dX11_ceases_16 rfl trivial (xo_0 dX11_ceases_17 rfl trivial (xo_0 dX11_ceases_18 rfl trivial (xo_0 dX11_ceases_19 rfl trivial (xo_0 dX11_ceases_20 rfl trivial (xo_n))))))))))))))))))))
theorem oX11_ceases {Iv : xI} (hI : xm_good Iv)  : ∀ q ∈ kX11_ceases, xm_okb Iv RX11 cX11_ceases false 1 lX11_ceases q.2 q.1 := by
  intro q hq
  simp only [List.mem_cons, List.not_mem_nil, or_false] at hq
  subst hq
  exact oX11_ceases_0 hI  
def S_X11_ceases : xS := tU fun as I Q => ∃ row p h, as = [.ref 0, .ref row, .int (nI p), .int (nI h)] ∧ t_row row ∧ p < 8 ∧ h < 9 ∧ ∀ J, t_off row I J → tA J row = g_cease (tA I row) p h → Q none J
theorem body_X11_ceases : xm_Body 4 2 0 0 [] lX11_ceases kX11_ceases S_X11_ceases := by
  intro X avs w Q QX hX0 hS
  have hG := xm_go [] hX0
  have hX := xm_go [] hX0
  clear hX0
  obtain ⟨I, rfl, row, p, h, rfl, hr, hp, hh, hQ⟩ := hS
  refine ⟨rfl, ?_⟩
  repeat' (first
    | ((with_reducible refine @And.intro (vp_in _ _) _ ?_ ?_); (· (first | with_reducible assumption | ((with_reducible refine t_vin ?_); decide) | ((with_reducible refine vp_in_nI ?_ ?_) <;> first | omega | decide) | (simp (disch := omega) only [xl_n, xl_m, nI_dec, nI_sb, nI_add, pk_mul]; (with_reducible refine vp_in_nI ?_ ?_) <;> first | omega | decide))); (conv => whnf))
    | (refine And.intro (by first | with_reducible assumption | exact (show tL _ = _ from rfl) | decide) ?_; (conv => whnf))
    | ((with_reducible refine @And.intro (_ = _) _ ?_ ?_); (· rfl); (conv => whnf))
    | ((with_reducible refine @And.intro (@LE.le Nat _ _ _) _ ?_ ?_); (· (first | exact Nat.zero_le _ | exact Nat.le_of_ble_eq_true rfl | omega)); (conv => whnf))
    | ((with_reducible refine @And.intro (@LT.lt Nat _ _ _) _ ?_ ?_); (· omega); (conv => whnf))
    | ((with_reducible refine @And.intro (∃ _, _ = _) _ ?_ ?_); (· exact ⟨_, rfl⟩); (conv => whnf))
    | ((with_reducible refine @And.intro (_ ∨ _) _ ?_ ?_); (· (first | exact Or.inl rfl | exact Or.inr rfl | exact t_b01 _ | assumption)); (conv => whnf))
    | ((with_reducible refine @And.intro (¬ (_ = _)) _ ?_ ?_); (· first | assumption | (with_reducible assumption)); (conv => whnf))
    | (refine hX _ _ _ _ _ _ ?_; (conv => whnf); fail_if_success show False)
    | (rw [t_si]; (conv => whnf))
    | (refine ⟨_, rfl, ?_⟩; (conv => whnf))
    | (refine ⟨_, _, rfl, ?_⟩; (conv => whnf))
    | (refine ⟨_, _, _, rfl, ?_⟩; (conv => whnf))
    | (refine ⟨_, _, _, _, rfl, ?_⟩; (conv => whnf))
    | (rw [t_lrow hr]; (conv => whnf))
    | (refine And.intro (fun c => ?_) (fun c => ?_) <;> (first | (exact absurd c (by decide +kernel)) | (conv => whnf)))
    | fail)
  all_goals clear hX hG
  simp (disch := omega) only [xl_n, xl_m, nI_dec, nI_sb, xl_0, xl_1, tW_i, t_bn0, t_bn1, Classical.not_not, t_lt, nI_add, nI_1, pk_mul, nI_clamp, t_si, nI_eq, nI_leI, nM_ne, nM_ne] at *
  refine hQ _ (t_off.tr t_off.u t_off.u) ?_
  rw [tA_l hp, tA_w hp]
  simp [g_cease, tA_gw hp, t_bit]
theorem ct_X11_ceases {Iv : xI} (hI : xm_good Iv) : xm_Ct Iv yX11_ceases (ws_ yX11_ceases cX11_ceases 4 none) 1 0 0 S_X11_ceases := xm_enter (rt := 2) (init := false) (by decide +kernel) rfl (fun h => by cases h) (Or.inr (Or.inr (Or.inl ⟨rfl, rfl⟩))) (oX11_ceases hI) body_X11_ceases
theorem cv_X11_ceases {Iv : xI} {own : String} {cc : ByteArray} {fr pc idx : Nat} (hI : xm_good Iv) (hdg : decode cc pc = .ok (.invokevirtual idx, 3)) (hl : xm_ml own idx yX11_ceases) (hfr : 1 < fr) : xm_CallOK Iv own cc fr pc (pc + 3) 4 0 0 (xm_this 8 S_X11_ceases) := xm_callV 8 hI (ct_X11_ceases hI) hdg hl q2389 qs98 q145 q2390 rfl rfl (by decide +kernel) hfr (by decide)
abbrev bX11_begins_0 : List xE := [(.aload_n 1, 1, 0, 0, 0), (.iconst 1, 2, 0, 0, 0), (.iload_n 2, 3, 0, 0, 0), (.iadd, 4, 0, 0, 0), (.dup2, 5, 0, 0, 0), (.iaload, 6, 0, 0, 0), (.iconst 1, 7, 0, 0, 0), (.iload_n 3, 8, 0, 0, 0), (.ishl, 9, 0, 0, 0), (.ior, 10, 0, 0, 0), (.iastore, 11, 0, 0, 0), (.aload_n 1, 12, 0, 0, 0), (.bipush 25, 14, 0, 0, 0), (.bipush 8, 16, 0, 0, 0), (.iload_n 3, 17, 0, 0, 0), (.imul, 18, 0, 0, 0), (.iadd, 19, 0, 0, 0), (.iload_n 2, 20, 0, 0, 0), (.iadd, 21, 0, 0, 0), (.aload_n 1, 22, 0, 0, 0), (.bipush 106, 24, 0, 0, 0), (.iaload, 25, 0, 0, 0), (.iastore, 26, 0, 0, 0), (.return_, 27, 0, 0, 0)]
abbrev kX11_begins : List (Nat × List xE) := [(0, bX11_begins_0)]
abbrev lX11_begins : List (Nat × Nat × Nat × xS) := []
theorem oX11_begins_0 {Iv : xI} (hI : xm_good Iv)  : xm_okb Iv RX11 cX11_begins false 1 lX11_begins bX11_begins_0 0 := xo_0 dX11_begins_0 rfl trivial (xo_0 dX11_begins_1 rfl trivial (xo_0 dX11_begins_2 rfl trivial (xo_0 dX11_begins_3 rfl trivial (xo_0 dX11_begins_4 rfl trivial (xo_0 dX11_begins_5 rfl trivial (xo_0 dX11_begins_6 rfl trivial (xo_0 dX11_begins_7 rfl trivial (xo_0 dX11_begins_8 rfl trivial (xo_0 dX11_begins_9 rfl trivial (xo_0 dX11_begins_10 rfl trivial (xo_0 dX11_begins_11 rfl trivial (xo_0 dX11_begins_12 rfl (xo_bipush (by decide +kernel)) (xo_0 dX11_begins_14 rfl (xo_bipush (by decide +kernel)) (xo_0 dX11_begins_16 rfl trivial (xo_0 dX11_begins_17 rfl trivial (xo_0 dX11_begins_18 rfl trivial (xo_0 dX11_begins_19 rfl trivial (xo_0 dX11_begins_20 rfl trivial (xo_0 dX11_begins_21 rfl trivial (xo_0 dX11_begins_22 rfl (xo_bipush (by decide +kernel)) (xo_0 dX11_begins_24 rfl trivial (xo_0 dX11_begins_25 rfl trivial (xo_0 dX11_begins_26 rfl trivial (xo_n))))))))))))))))))))))))
theorem oX11_begins {Iv : xI} (hI : xm_good Iv)  : ∀ q ∈ kX11_begins, xm_okb Iv RX11 cX11_begins false 1 lX11_begins q.2 q.1 := by
  intro q hq
  simp only [List.mem_cons, List.not_mem_nil, or_false] at hq
  subst hq
  exact oX11_begins_0 hI  
def S_X11_begins : xS := tU fun as I Q => ∃ row p h, as = [.ref 0, .ref row, .int (nI p), .int (nI h)] ∧ t_row row ∧ p < 8 ∧ h < 9 ∧ ∀ J, t_off row I J → tA J row = g_begin (tA I row) p h → Q none J
theorem body_X11_begins : xm_Body 4 2 0 0 [] lX11_begins kX11_begins S_X11_begins := by
  intro X avs w Q QX hX0 hS
  have hG := xm_go [] hX0
  have hX := xm_go [] hX0
  clear hX0
  obtain ⟨I, rfl, row, p, h, rfl, hr, hp, hh, hQ⟩ := hS
  refine ⟨rfl, ?_⟩
  repeat' (first
    | ((with_reducible refine @And.intro (vp_in _ _) _ ?_ ?_); (· (first | with_reducible assumption | ((with_reducible refine t_vin ?_); decide) | ((with_reducible refine vp_in_nI ?_ ?_) <;> first | omega | decide) | (simp (disch := omega) only [xl_n, xl_m, nI_dec, nI_sb, nI_add, pk_mul]; (with_reducible refine vp_in_nI ?_ ?_) <;> first | omega | decide))); (conv => whnf))
    | (refine And.intro (by first | with_reducible assumption | exact (show tL _ = _ from rfl) | decide) ?_; (conv => whnf))
    | ((with_reducible refine @And.intro (_ = _) _ ?_ ?_); (· rfl); (conv => whnf))
    | ((with_reducible refine @And.intro (@LE.le Nat _ _ _) _ ?_ ?_); (· (first | exact Nat.zero_le _ | exact Nat.le_of_ble_eq_true rfl | omega)); (conv => whnf))
    | ((with_reducible refine @And.intro (@LT.lt Nat _ _ _) _ ?_ ?_); (· omega); (conv => whnf))
    | ((with_reducible refine @And.intro (∃ _, _ = _) _ ?_ ?_); (· exact ⟨_, rfl⟩); (conv => whnf))
    | ((with_reducible refine @And.intro (_ ∨ _) _ ?_ ?_); (· (first | exact Or.inl rfl | exact Or.inr rfl | exact t_b01 _ | assumption)); (conv => whnf))
    | ((with_reducible refine @And.intro (¬ (_ = _)) _ ?_ ?_); (· first | assumption | (with_reducible assumption)); (conv => whnf))
    | (refine hX _ _ _ _ _ _ ?_; (conv => whnf); fail_if_success show False)
    | (rw [t_si]; (conv => whnf))
    | (refine ⟨_, rfl, ?_⟩; (conv => whnf))
    | (refine ⟨_, _, rfl, ?_⟩; (conv => whnf))
    | (refine ⟨_, _, _, rfl, ?_⟩; (conv => whnf))
    | (refine ⟨_, _, _, _, rfl, ?_⟩; (conv => whnf))
    | (rw [t_lrow hr]; (conv => whnf))
    | (refine And.intro (fun c => ?_) (fun c => ?_) <;> (first | (exact absurd c (by decide +kernel)) | (conv => whnf)))
    | fail)
  all_goals clear hX hG
  simp (disch := omega) only [xl_n, xl_m, nI_dec, nI_sb, xl_0, xl_1, tW_i, t_bn0, t_bn1, Classical.not_not, t_lt, nI_add, nI_1, pk_mul, nI_clamp, t_si, nI_eq, nI_leI, nM_ne, nM_ne] at *
  refine hQ _ (t_off.tr t_off.u t_off.u) ?_
  rw [tA_i hh hp, tA_w hp, xm_u2_at, if_neg (by omega)]
  simp [g_begin, tA_gw hp, t_bit, gsi, tA_gy]
theorem ct_X11_begins {Iv : xI} (hI : xm_good Iv) : xm_Ct Iv yX11_begins (ws_ yX11_begins cX11_begins 4 none) 1 0 0 S_X11_begins := xm_enter (rt := 2) (init := false) (by decide +kernel) rfl (fun h => by cases h) (Or.inr (Or.inr (Or.inl ⟨rfl, rfl⟩))) (oX11_begins hI) body_X11_begins
theorem cv_X11_begins {Iv : xI} {own : String} {cc : ByteArray} {fr pc idx : Nat} (hI : xm_good Iv) (hdg : decode cc pc = .ok (.invokevirtual idx, 3)) (hl : xm_ml own idx yX11_begins) (hfr : 1 < fr) : xm_CallOK Iv own cc fr pc (pc + 3) 4 0 0 (xm_this 8 S_X11_begins) := xm_callV 8 hI (ct_X11_begins hI) hdg hl q2393 qs99 q145 q2394 rfl rfl (by decide +kernel) hfr (by decide)
abbrev bX11_copies_0 : List xE := [(.iconst 0, 1, 0, 0, 0), (.istore_n 2, 2, 0, 0, 0)]
abbrev bX11_copies_2 : List xE := [(.iload_n 2, 3, 0, 0, 0), (.bipush 107, 5, 0, 0, 0), (.if_icmp .ge 15, 8, 0, 20, 0), (.aload_n 1, 9, 0, 0, 0), (.iload_n 2, 10, 0, 0, 0), (.aload_n 0, 11, 0, 0, 0), (.iload_n 2, 12, 0, 0, 0), (.iaload, 13, 0, 0, 0), (.iastore, 14, 0, 0, 0), (.iinc 2 1, 17, 0, 0, 0), (.goto (-15), 20, 0, 2, 0)]
abbrev bX11_copies_20 : List xE := [(.return_, 21, 0, 0, 0)]
abbrev kX11_copies : List (Nat × List xE) := [(0, bX11_copies_0), (2, bX11_copies_2), (20, bX11_copies_20)]
abbrev lX11_copies : List (Nat × Nat × Nat × xS) := []
theorem oX11_copies_0 {Iv : xI} (hI : xm_good Iv)  : xm_okb Iv RX11 cX11_copies false 1 lX11_copies bX11_copies_0 0 := xo_0 dX11_copies_0 rfl trivial (xo_0 dX11_copies_1 rfl trivial (xo_n))
theorem oX11_copies_2 {Iv : xI} (hI : xm_good Iv)  : xm_okb Iv RX11 cX11_copies false 1 lX11_copies bX11_copies_2 2 := xo_0 dX11_copies_2 rfl trivial (xo_0 dX11_copies_3 rfl (xo_bipush (by decide +kernel)) (xo_0 dX11_copies_5 rfl rfl (xo_0 dX11_copies_8 rfl trivial (xo_0 dX11_copies_9 rfl trivial (xo_0 dX11_copies_10 rfl trivial (xo_0 dX11_copies_11 rfl trivial (xo_0 dX11_copies_12 rfl trivial (xo_0 dX11_copies_13 rfl trivial (xo_0 dX11_copies_14 rfl trivial (xo_0 dX11_copies_17 rfl rfl (xo_n)))))))))))
theorem oX11_copies_20 {Iv : xI} (hI : xm_good Iv)  : xm_okb Iv RX11 cX11_copies false 1 lX11_copies bX11_copies_20 20 := xo_0 dX11_copies_20 rfl trivial (xo_n)
theorem oX11_copies {Iv : xI} (hI : xm_good Iv)  : ∀ q ∈ kX11_copies, xm_okb Iv RX11 cX11_copies false 1 lX11_copies q.2 q.1 := by
  intro q hq
  simp only [List.mem_cons, List.not_mem_nil, or_false] at hq
  rcases hq with rfl | rfl | rfl
  · exact oX11_copies_0 hI  
  · exact oX11_copies_2 hI  
  · exact oX11_copies_20 hI  
def S_X11_copies : xS := tU fun as I Q => ∃ a b, as = [.ref a, .ref b] ∧ t_row a ∧ t_row b ∧ a ≠ b ∧ ∀ J, t_off b I J → (∀ k, k < 107 → J b k = I a k) → Q none J
theorem body_X11_copies : xm_Body 3 2 0 0 [] lX11_copies kX11_copies S_X11_copies := by
  intro X avs w Q QX hX0 hS
  have hG := xm_go [] hX0
  have hX := xm_go [2] hX0
  clear hX0
  obtain ⟨I, rfl, a, b, rfl, ha, hb, hab, hQ⟩ := hS
  have loop : ∀ k, k ≤ 107 → ∀ J, t_off b I J → (∀ j, j < k → J b j = I a j) → X 2 [some (.ref a), some (.ref b), some (.int (nI k))] [] (tW J) 0 0 := by
    refine t_for fun k h1 ih J hJ hk => ?_
    refine hG _ _ _ _ _ _ ?_
    (conv => whnf)
    refine And.intro (fun c => ?_) (fun c => ?_) <;> (conv => whnf)
    · repeat' (first
        | ((with_reducible refine @And.intro (vp_in _ _) _ ?_ ?_); (· (first | with_reducible assumption | ((with_reducible refine t_vin ?_); decide) | ((with_reducible refine vp_in_nI ?_ ?_) <;> first | omega | decide) | (simp (disch := omega) only [xl_n, xl_m, nI_dec, nI_sb, nI_add, pk_mul]; (with_reducible refine vp_in_nI ?_ ?_) <;> first | omega | decide))); (conv => whnf))
        | (refine And.intro (by first | with_reducible assumption | exact (show tL _ = _ from rfl) | decide) ?_; (conv => whnf))
        | ((with_reducible refine @And.intro (_ = _) _ ?_ ?_); (· rfl); (conv => whnf))
        | ((with_reducible refine @And.intro (@LE.le Nat _ _ _) _ ?_ ?_); (· (first | exact Nat.zero_le _ | exact Nat.le_of_ble_eq_true rfl | omega)); (conv => whnf))
        | ((with_reducible refine @And.intro (@LT.lt Nat _ _ _) _ ?_ ?_); (· omega); (conv => whnf))
        | ((with_reducible refine @And.intro (∃ _, _ = _) _ ?_ ?_); (· exact ⟨_, rfl⟩); (conv => whnf))
        | ((with_reducible refine @And.intro (_ ∨ _) _ ?_ ?_); (· (first | exact Or.inl rfl | exact Or.inr rfl | exact t_b01 _ | assumption)); (conv => whnf))
        | ((with_reducible refine @And.intro (¬ (_ = _)) _ ?_ ?_); (· first | assumption | (with_reducible assumption)); (conv => whnf))
        | (refine hX _ _ _ _ _ _ ?_; (conv => whnf); fail_if_success show False)
        | (rw [t_si]; (conv => whnf))
        | (refine ⟨_, rfl, ?_⟩; (conv => whnf))
        | (refine ⟨_, _, rfl, ?_⟩; (conv => whnf))
        | (refine ⟨_, _, _, rfl, ?_⟩; (conv => whnf))
        | (refine ⟨_, _, _, _, rfl, ?_⟩; (conv => whnf))
        | fail)
      have : k = 107 := Nat.le_antisymm h1 (t_kge (n := 107) rfl c (by omega) (by omega))
      subst this
      exact hQ J hJ hk
    · have h2 : k < 107 := t_klt (n := 107) rfl c (by omega)
      repeat' (first
        | ((with_reducible refine @And.intro (vp_in _ _) _ ?_ ?_); (· (first | with_reducible assumption | ((with_reducible refine t_vin ?_); decide) | ((with_reducible refine vp_in_nI ?_ ?_) <;> first | omega | decide) | (simp (disch := omega) only [xl_n, xl_m, nI_dec, nI_sb, nI_add, pk_mul]; (with_reducible refine vp_in_nI ?_ ?_) <;> first | omega | decide))); (conv => whnf))
        | (refine And.intro (by first | with_reducible assumption | exact (show tL _ = _ from rfl) | decide) ?_; (conv => whnf))
        | ((with_reducible refine @And.intro (_ = _) _ ?_ ?_); (· rfl); (conv => whnf))
        | ((with_reducible refine @And.intro (@LE.le Nat _ _ _) _ ?_ ?_); (· (first | exact Nat.zero_le _ | exact Nat.le_of_ble_eq_true rfl | omega)); (conv => whnf))
        | ((with_reducible refine @And.intro (@LT.lt Nat _ _ _) _ ?_ ?_); (· omega); (conv => whnf))
        | ((with_reducible refine @And.intro (∃ _, _ = _) _ ?_ ?_); (· exact ⟨_, rfl⟩); (conv => whnf))
        | ((with_reducible refine @And.intro (_ ∨ _) _ ?_ ?_); (· (first | exact Or.inl rfl | exact Or.inr rfl | exact t_b01 _ | assumption)); (conv => whnf))
        | ((with_reducible refine @And.intro (¬ (_ = _)) _ ?_ ?_); (· first | assumption | (with_reducible assumption)); (conv => whnf))
        | (refine hX _ _ _ _ _ _ ?_; (conv => whnf); fail_if_success show False)
        | (rw [t_si]; (conv => whnf))
        | (refine ⟨_, rfl, ?_⟩; (conv => whnf))
        | (refine ⟨_, _, rfl, ?_⟩; (conv => whnf))
        | (refine ⟨_, _, _, rfl, ?_⟩; (conv => whnf))
        | (refine ⟨_, _, _, _, rfl, ?_⟩; (conv => whnf))
        | (rw [t_lrow ha]; (conv => whnf))
        | (rw [t_lrow hb]; (conv => whnf))
        | (refine And.intro (fun c => ?_) (fun c => ?_) <;> (first | (exact absurd c (by decide +kernel)) | (conv => whnf)))
        | fail)
      simp (disch := omega) only [xl_n, xl_m, nI_dec, nI_sb, xl_0, xl_1, tW_i, t_bn0, t_bn1, Classical.not_not, t_lt, nI_add, nI_1, pk_mul, nI_clamp, t_si, nI_eq, nI_leI, nM_ne, nM_ne, xm_set, xm_lv0, xm_psh] at *
      refine ih (k + 1) (by omega) (by omega) _ (t_off.tr hJ t_off.u) (fun j hj => ?_)
      rw [xm_u2_at]
      split
      · rename_i e
        rw [e, hJ a hab]
      · exact hk j (by omega)
  refine ⟨rfl, ?_⟩
  repeat' (first
    | ((with_reducible refine @And.intro (vp_in _ _) _ ?_ ?_); (· (first | with_reducible assumption | ((with_reducible refine t_vin ?_); decide) | ((with_reducible refine vp_in_nI ?_ ?_) <;> first | omega | decide) | (simp (disch := omega) only [xl_n, xl_m, nI_dec, nI_sb, nI_add, pk_mul]; (with_reducible refine vp_in_nI ?_ ?_) <;> first | omega | decide))); (conv => whnf))
    | (refine And.intro (by first | with_reducible assumption | exact (show tL _ = _ from rfl) | decide) ?_; (conv => whnf))
    | ((with_reducible refine @And.intro (_ = _) _ ?_ ?_); (· rfl); (conv => whnf))
    | ((with_reducible refine @And.intro (@LE.le Nat _ _ _) _ ?_ ?_); (· (first | exact Nat.zero_le _ | exact Nat.le_of_ble_eq_true rfl | omega)); (conv => whnf))
    | ((with_reducible refine @And.intro (@LT.lt Nat _ _ _) _ ?_ ?_); (· omega); (conv => whnf))
    | ((with_reducible refine @And.intro (∃ _, _ = _) _ ?_ ?_); (· exact ⟨_, rfl⟩); (conv => whnf))
    | ((with_reducible refine @And.intro (_ ∨ _) _ ?_ ?_); (· (first | exact Or.inl rfl | exact Or.inr rfl | exact t_b01 _ | assumption)); (conv => whnf))
    | ((with_reducible refine @And.intro (¬ (_ = _)) _ ?_ ?_); (· first | assumption | (with_reducible assumption)); (conv => whnf))
    | (refine hX _ _ _ _ _ _ ?_; (conv => whnf); fail_if_success show False)
    | (rw [t_si]; (conv => whnf))
    | (refine ⟨_, rfl, ?_⟩; (conv => whnf))
    | (refine ⟨_, _, rfl, ?_⟩; (conv => whnf))
    | (refine ⟨_, _, _, rfl, ?_⟩; (conv => whnf))
    | (refine ⟨_, _, _, _, rfl, ?_⟩; (conv => whnf))
    | (refine And.intro (fun c => ?_) (fun c => ?_) <;> (first | (exact absurd c (by decide +kernel)) | (conv => whnf)))
    | fail)
  exact loop 0 (Nat.zero_le _) I t_off.rf (fun j hj => by omega)
theorem ct_X11_copies {Iv : xI} (hI : xm_good Iv) : xm_Ct Iv yX11_copies (ws_ yX11_copies cX11_copies 3 none) 1 0 0 S_X11_copies := xm_enter (rt := 2) (init := false) (by decide +kernel) rfl (fun h => by cases h) (Or.inr (Or.inr (Or.inl ⟨rfl, rfl⟩))) (oX11_copies hI) body_X11_copies
theorem cv_X11_copies {Iv : xI} {own : String} {cc : ByteArray} {fr pc idx : Nat} (hI : xm_good Iv) (hdg : decode cc pc = .ok (.invokestatic idx, 3)) (hl : xm_ml own idx yX11_copies) (hfr : 1 < fr) : xm_CallOK Iv own cc fr pc (pc + 3) 2 0 0 S_X11_copies := xm_callS hI (ct_X11_copies hI) hdg hl q1949 q145 q1950 (by decide +kernel) hfr (by decide)
theorem tA_d {I : tI} {r h : Nat} (hh : h < 9) : tA (xm_u2 I r 0 (I r 0 ||| nI 1 <<< (nI h &&& 31))) r = g_dead (tA I r) h := by
  refine g_ext (fun q => ?_) (fun q => ?_) (fun q => ?_) (fun a q => ?_) (fun a => ?_) (fun a => ?_) ?_
  · simp only [tA, xm_u2, g_dead]; grind
  · simp only [tA, xm_u2, g_dead]; grind
  · simp only [tA, xm_u2, g_dead]; grind
  · simp only [tA, xm_u2, g_dead]; grind
  · simp only [tA, xm_u2, g_dead]; grind
  · show (if a < 9 then t_has (xm_u2 I r 0 (I r 0 ||| t_bit h) r 0) a else false) = g_upd (tA I r).2.2.2.2.2.1 h true a
    rw [xm_u2_at, if_pos rfl, g_upd]
    by_cases q : a < 9
    · rw [if_pos q, th_or (by omega), th_bit (by omega) (by omega)]
      simp [tA, q]
      by_cases e : a = h <;> simp [e]
    · rw [if_neg q, if_neg (by omega)]
      simp [tA, q]
  · simp only [tA, xm_u2, g_dead]; grind
abbrev bX11_diesOf_0 : List xE := [(.aload_n 1, 1, 0, 0, 0), (.iconst 0, 2, 0, 0, 0), (.dup2, 3, 0, 0, 0), (.iaload, 4, 0, 0, 0), (.iconst 1, 5, 0, 0, 0), (.iload_n 2, 6, 0, 0, 0), (.ishl, 7, 0, 0, 0), (.ior, 8, 0, 0, 0), (.iastore, 9, 0, 0, 0), (.iconst 0, 10, 0, 0, 0), (.istore_n 3, 11, 0, 0, 0)]
abbrev bX11_diesOf_11 : List xE := [(.iload_n 3, 12, 0, 0, 0), (.aload_n 0, 13, 0, 0, 0), (.getfield 23, 16, 8, 12, 1), (.iconst 1, 17, 0, 0, 0), (.iaload, 18, 0, 0, 0), (.if_icmp .ge 28, 21, 0, 46, 0), (.aload_n 1, 22, 0, 0, 0), (.iconst 1, 23, 0, 0, 0), (.iload_n 3, 24, 0, 0, 0), (.iadd, 25, 0, 0, 0), (.iaload, 26, 0, 0, 0), (.iload_n 2, 27, 0, 0, 0), (.invokestatic 242, 30, 0, 0, 9), (.ifCond .eq 10, 33, 0, 40, 0), (.aload_n 0, 34, 0, 0, 0), (.aload_n 1, 35, 0, 0, 0), (.iload_n 3, 36, 0, 0, 0), (.iload_n 2, 37, 0, 0, 0), (.invokevirtual 367, 40, 0, 1, 9)]
abbrev bX11_diesOf_40 : List xE := [(.iinc 3 1, 43, 0, 0, 0), (.goto (-32), 46, 0, 11, 0)]
abbrev bX11_diesOf_46 : List xE := [(.return_, 47, 0, 0, 0)]
abbrev kX11_diesOf : List (Nat × List xE) := [(0, bX11_diesOf_0), (11, bX11_diesOf_11), (40, bX11_diesOf_40), (46, bX11_diesOf_46)]
abbrev lX11_diesOf : List (Nat × Nat × Nat × xS) := [(2, 0, 0, S_X11_has), (4, 0, 0, xm_this 8 S_X11_ceases)]
theorem oX11_diesOf_0 {Iv : xI} (hI : xm_good Iv)  : xm_okb Iv RX11 cX11_diesOf false 2 lX11_diesOf bX11_diesOf_0 0 := xo_0 dX11_diesOf_0 rfl trivial (xo_0 dX11_diesOf_1 rfl trivial (xo_0 dX11_diesOf_2 rfl trivial (xo_0 dX11_diesOf_3 rfl trivial (xo_0 dX11_diesOf_4 rfl trivial (xo_0 dX11_diesOf_5 rfl trivial (xo_0 dX11_diesOf_6 rfl trivial (xo_0 dX11_diesOf_7 rfl trivial (xo_0 dX11_diesOf_8 rfl trivial (xo_0 dX11_diesOf_9 rfl trivial (xo_0 dX11_diesOf_10 rfl trivial (xo_n)))))))))))
theorem oX11_diesOf_11 {Iv : xI} (hI : xm_good Iv)  : xm_okb Iv RX11 cX11_diesOf false 2 lX11_diesOf bX11_diesOf_11 11 := xo_0 dX11_diesOf_11 rfl trivial (xo_0 dX11_diesOf_12 rfl trivial (xo_1 dX11_diesOf_13 rfl (xm_fg_of (Or.inl q1967) (by decide) rfl (by decide) rfl rfl (Or.inl rfl) rfl) (xo_0 dX11_diesOf_16 rfl trivial (xo_0 dX11_diesOf_17 rfl trivial (xo_0 dX11_diesOf_18 rfl rfl (xo_0 dX11_diesOf_21 rfl trivial (xo_0 dX11_diesOf_22 rfl trivial (xo_0 dX11_diesOf_23 rfl trivial (xo_0 dX11_diesOf_24 rfl trivial (xo_0 dX11_diesOf_25 rfl trivial (xo_0 dX11_diesOf_26 rfl trivial (xo_c rfl (cv_X11_has hI dX11_diesOf_27 (Or.inl q1945) (by decide)) (xo_0 dX11_diesOf_30 rfl rfl (xo_0 dX11_diesOf_33 rfl trivial (xo_0 dX11_diesOf_34 rfl trivial (xo_0 dX11_diesOf_35 rfl trivial (xo_0 dX11_diesOf_36 rfl trivial (xo_c rfl (cv_X11_ceases hI dX11_diesOf_37 (Or.inl q2387) (by decide)) (xo_n)))))))))))))))))))
theorem oX11_diesOf_40 {Iv : xI} (hI : xm_good Iv)  : xm_okb Iv RX11 cX11_diesOf false 2 lX11_diesOf bX11_diesOf_40 40 := xo_0 dX11_diesOf_40 rfl trivial (xo_0 dX11_diesOf_43 rfl rfl (xo_n))
theorem oX11_diesOf_46 {Iv : xI} (hI : xm_good Iv)  : xm_okb Iv RX11 cX11_diesOf false 2 lX11_diesOf bX11_diesOf_46 46 := xo_0 dX11_diesOf_46 rfl trivial (xo_n)
theorem oX11_diesOf {Iv : xI} (hI : xm_good Iv)  : ∀ q ∈ kX11_diesOf, xm_okb Iv RX11 cX11_diesOf false 2 lX11_diesOf q.2 q.1 := by
  intro q hq
  simp only [List.mem_cons, List.not_mem_nil, or_false] at hq
  rcases hq with rfl | rfl | rfl | rfl
  · exact oX11_diesOf_0 hI  
  · exact oX11_diesOf_11 hI  
  · exact oX11_diesOf_40 hI  
  · exact oX11_diesOf_46 hI  
def S_X11_diesOf : xS := tU fun as I Q => ∃ row h, as = [.ref 0, .ref row, .int (nI h)] ∧ t_row row ∧ t_ok I ∧ t_lok I ∧ h < 9 ∧ ∀ J, t_off row I J → tA J row = g_die (tK I) (tA I row) h → Q none J
theorem body_X11_diesOf : xm_Body 4 2 0 0 [] lX11_diesOf kX11_diesOf S_X11_diesOf := by
  intro X avs w Q QX hX0 hS
  have hG := xm_go [] hX0
  have hX := xm_go [11] hX0
  clear hX0
  obtain ⟨I, rfl, row, h, rfl, hr, hok, hl, hh, hQ⟩ := hS
  obtain ⟨-, -, hn, h8, -⟩ := id hok
  have loop : ∀ k, k ≤ t_p I → ∀ J, t_off row I J → tA J row = t_fold k (fun p T => if t_has (gw T p) h = true then g_cease T p h else T) (g_dead (tA I row) h) → X 11 [some (.ref 0), some (.ref row), some (.int (nI h)), some (.int (nI k))] [] (tW J) 0 0 := by
    refine t_for fun k h1 ih J hJ hk => ?_
    have hn' : J 12 1 = nI (t_p I) := by rw [hJ 12 (Ne.symm (t_row_ne hr))]; exact hn
    refine hG _ _ _ _ _ _ ?_
    (conv => whnf)
    repeat' (first
      | ((with_reducible refine @And.intro (vp_in _ _) _ ?_ ?_); (· (first | with_reducible assumption | ((with_reducible refine t_vin ?_); decide) | ((with_reducible refine vp_in_nI ?_ ?_) <;> first | omega | decide) | (simp (disch := omega) only [xl_n, xl_m, nI_dec, nI_sb, nI_add, pk_mul]; (with_reducible refine vp_in_nI ?_ ?_) <;> first | omega | decide))); (conv => whnf))
      | (refine And.intro (by first | with_reducible assumption | exact (show tL _ = _ from rfl) | decide) ?_; (conv => whnf))
      | ((with_reducible refine @And.intro (_ = _) _ ?_ ?_); (· rfl); (conv => whnf))
      | ((with_reducible refine @And.intro (@LE.le Nat _ _ _) _ ?_ ?_); (· (first | exact Nat.zero_le _ | exact Nat.le_of_ble_eq_true rfl | omega)); (conv => whnf))
      | ((with_reducible refine @And.intro (@LT.lt Nat _ _ _) _ ?_ ?_); (· omega); (conv => whnf))
      | ((with_reducible refine @And.intro (∃ _, _ = _) _ ?_ ?_); (· exact ⟨_, rfl⟩); (conv => whnf))
      | ((with_reducible refine @And.intro (_ ∨ _) _ ?_ ?_); (· (first | exact Or.inl rfl | exact Or.inr rfl | exact t_b01 _ | assumption)); (conv => whnf))
      | ((with_reducible refine @And.intro (¬ (_ = _)) _ ?_ ?_); (· first | assumption | (with_reducible assumption)); (conv => whnf))
      | (refine hX _ _ _ _ _ _ ?_; (conv => whnf); fail_if_success show False)
      | (rw [t_si]; (conv => whnf))
      | (refine ⟨_, rfl, ?_⟩; (conv => whnf))
      | (refine ⟨_, _, rfl, ?_⟩; (conv => whnf))
      | (refine ⟨_, _, _, rfl, ?_⟩; (conv => whnf))
      | (refine ⟨_, _, _, _, rfl, ?_⟩; (conv => whnf))
      | fail)
    refine And.intro (fun c => ?_) (fun c => ?_) <;> (conv => whnf)
    · repeat' (first
        | ((with_reducible refine @And.intro (vp_in _ _) _ ?_ ?_); (· (first | with_reducible assumption | ((with_reducible refine t_vin ?_); decide) | ((with_reducible refine vp_in_nI ?_ ?_) <;> first | omega | decide) | (simp (disch := omega) only [xl_n, xl_m, nI_dec, nI_sb, nI_add, pk_mul]; (with_reducible refine vp_in_nI ?_ ?_) <;> first | omega | decide))); (conv => whnf))
        | (refine And.intro (by first | with_reducible assumption | exact (show tL _ = _ from rfl) | decide) ?_; (conv => whnf))
        | ((with_reducible refine @And.intro (_ = _) _ ?_ ?_); (· rfl); (conv => whnf))
        | ((with_reducible refine @And.intro (@LE.le Nat _ _ _) _ ?_ ?_); (· (first | exact Nat.zero_le _ | exact Nat.le_of_ble_eq_true rfl | omega)); (conv => whnf))
        | ((with_reducible refine @And.intro (@LT.lt Nat _ _ _) _ ?_ ?_); (· omega); (conv => whnf))
        | ((with_reducible refine @And.intro (∃ _, _ = _) _ ?_ ?_); (· exact ⟨_, rfl⟩); (conv => whnf))
        | ((with_reducible refine @And.intro (_ ∨ _) _ ?_ ?_); (· (first | exact Or.inl rfl | exact Or.inr rfl | exact t_b01 _ | assumption)); (conv => whnf))
        | ((with_reducible refine @And.intro (¬ (_ = _)) _ ?_ ?_); (· first | assumption | (with_reducible assumption)); (conv => whnf))
        | (refine hX _ _ _ _ _ _ ?_; (conv => whnf); fail_if_success show False)
        | (rw [t_si]; (conv => whnf))
        | (refine ⟨_, rfl, ?_⟩; (conv => whnf))
        | (refine ⟨_, _, rfl, ?_⟩; (conv => whnf))
        | (refine ⟨_, _, _, rfl, ?_⟩; (conv => whnf))
        | (refine ⟨_, _, _, _, rfl, ?_⟩; (conv => whnf))
        | fail)
      have : k = t_p I := Nat.le_antisymm h1 (t_kge hn' c (by omega) (by omega))
      subst this
      exact hQ J hJ hk
    · have h2 : k < t_p I := t_klt hn' c (by omega)
      repeat' (first
        | ((with_reducible refine @And.intro (vp_in _ _) _ ?_ ?_); (· (first | with_reducible assumption | ((with_reducible refine t_vin ?_); decide) | ((with_reducible refine vp_in_nI ?_ ?_) <;> first | omega | decide) | (simp (disch := omega) only [xl_n, xl_m, nI_dec, nI_sb, nI_add, pk_mul]; (with_reducible refine vp_in_nI ?_ ?_) <;> first | omega | decide))); (conv => whnf))
        | (refine And.intro (by first | with_reducible assumption | exact (show tL _ = _ from rfl) | decide) ?_; (conv => whnf))
        | ((with_reducible refine @And.intro (_ = _) _ ?_ ?_); (· rfl); (conv => whnf))
        | ((with_reducible refine @And.intro (@LE.le Nat _ _ _) _ ?_ ?_); (· (first | exact Nat.zero_le _ | exact Nat.le_of_ble_eq_true rfl | omega)); (conv => whnf))
        | ((with_reducible refine @And.intro (@LT.lt Nat _ _ _) _ ?_ ?_); (· omega); (conv => whnf))
        | ((with_reducible refine @And.intro (∃ _, _ = _) _ ?_ ?_); (· exact ⟨_, rfl⟩); (conv => whnf))
        | ((with_reducible refine @And.intro (_ ∨ _) _ ?_ ?_); (· (first | exact Or.inl rfl | exact Or.inr rfl | exact t_b01 _ | assumption)); (conv => whnf))
        | ((with_reducible refine @And.intro (¬ (_ = _)) _ ?_ ?_); (· first | assumption | (with_reducible assumption)); (conv => whnf))
        | (refine hX _ _ _ _ _ _ ?_; (conv => whnf); fail_if_success show False)
        | (rw [t_si]; (conv => whnf))
        | (refine ⟨_, rfl, ?_⟩; (conv => whnf))
        | (refine ⟨_, _, rfl, ?_⟩; (conv => whnf))
        | (refine ⟨_, _, _, rfl, ?_⟩; (conv => whnf))
        | (refine ⟨_, _, _, _, rfl, ?_⟩; (conv => whnf))
        | (rw [t_lrow hr]; (conv => whnf))
        | (refine And.intro (fun c => ?_) (fun c => ?_) <;> (first | (exact absurd c (by decide +kernel)) | (conv => whnf)))
        | fail)
      · simp (disch := omega) only [xl_n, xl_m, nI_dec, nI_sb, xl_0, xl_1, tW_i, t_bn0, t_bn1, Classical.not_not, t_lt, nI_add, nI_1, pk_mul, nI_clamp, t_si, nI_eq, nI_leI, nM_ne, nM_ne, xm_set, xm_lv0, xm_psh] at *
        refine ih (k + 1) (by omega) (by omega) J hJ ?_
        rw [t_fold_s, ← hk, tA_gw (by omega)]
        simp [c]
      · intro L hL hA
        (conv => whnf)
        repeat' (first
          | ((with_reducible refine @And.intro (vp_in _ _) _ ?_ ?_); (· (first | with_reducible assumption | ((with_reducible refine t_vin ?_); decide) | ((with_reducible refine vp_in_nI ?_ ?_) <;> first | omega | decide) | (simp (disch := omega) only [xl_n, xl_m, nI_dec, nI_sb, nI_add, pk_mul]; (with_reducible refine vp_in_nI ?_ ?_) <;> first | omega | decide))); (conv => whnf))
          | (refine And.intro (by first | with_reducible assumption | exact (show tL _ = _ from rfl) | decide) ?_; (conv => whnf))
          | ((with_reducible refine @And.intro (_ = _) _ ?_ ?_); (· rfl); (conv => whnf))
          | ((with_reducible refine @And.intro (@LE.le Nat _ _ _) _ ?_ ?_); (· (first | exact Nat.zero_le _ | exact Nat.le_of_ble_eq_true rfl | omega)); (conv => whnf))
          | ((with_reducible refine @And.intro (@LT.lt Nat _ _ _) _ ?_ ?_); (· omega); (conv => whnf))
          | ((with_reducible refine @And.intro (∃ _, _ = _) _ ?_ ?_); (· exact ⟨_, rfl⟩); (conv => whnf))
          | ((with_reducible refine @And.intro (_ ∨ _) _ ?_ ?_); (· (first | exact Or.inl rfl | exact Or.inr rfl | exact t_b01 _ | assumption)); (conv => whnf))
          | ((with_reducible refine @And.intro (¬ (_ = _)) _ ?_ ?_); (· first | assumption | (with_reducible assumption)); (conv => whnf))
          | (refine hX _ _ _ _ _ _ ?_; (conv => whnf); fail_if_success show False)
          | (rw [t_si]; (conv => whnf))
          | (refine ⟨_, rfl, ?_⟩; (conv => whnf))
          | (refine ⟨_, _, rfl, ?_⟩; (conv => whnf))
          | (refine ⟨_, _, _, rfl, ?_⟩; (conv => whnf))
          | (refine ⟨_, _, _, _, rfl, ?_⟩; (conv => whnf))
          | (refine And.intro (fun c => ?_) (fun c => ?_) <;> (first | (exact absurd c (by decide +kernel)) | (conv => whnf)))
          | fail)
        simp (disch := omega) only [xl_n, xl_m, nI_dec, nI_sb, xl_0, xl_1, tW_i, t_bn0, t_bn1, Classical.not_not, t_lt, nI_add, nI_1, pk_mul, nI_clamp, t_si, nI_eq, nI_leI, nM_ne, nM_ne, xm_set, xm_lv0, xm_psh] at *
        refine ih (k + 1) (by omega) (by omega) L (t_off.tr hJ hL) ?_
        rw [t_fold_s, ← hk, tA_gw (by omega), hA]
        simp [c]
  refine ⟨rfl, ?_⟩
  repeat' (first
    | ((with_reducible refine @And.intro (vp_in _ _) _ ?_ ?_); (· (first | with_reducible assumption | ((with_reducible refine t_vin ?_); decide) | ((with_reducible refine vp_in_nI ?_ ?_) <;> first | omega | decide) | (simp (disch := omega) only [xl_n, xl_m, nI_dec, nI_sb, nI_add, pk_mul]; (with_reducible refine vp_in_nI ?_ ?_) <;> first | omega | decide))); (conv => whnf))
    | (refine And.intro (by first | with_reducible assumption | exact (show tL _ = _ from rfl) | decide) ?_; (conv => whnf))
    | ((with_reducible refine @And.intro (_ = _) _ ?_ ?_); (· rfl); (conv => whnf))
    | ((with_reducible refine @And.intro (@LE.le Nat _ _ _) _ ?_ ?_); (· (first | exact Nat.zero_le _ | exact Nat.le_of_ble_eq_true rfl | omega)); (conv => whnf))
    | ((with_reducible refine @And.intro (@LT.lt Nat _ _ _) _ ?_ ?_); (· omega); (conv => whnf))
    | ((with_reducible refine @And.intro (∃ _, _ = _) _ ?_ ?_); (· exact ⟨_, rfl⟩); (conv => whnf))
    | ((with_reducible refine @And.intro (_ ∨ _) _ ?_ ?_); (· (first | exact Or.inl rfl | exact Or.inr rfl | exact t_b01 _ | assumption)); (conv => whnf))
    | ((with_reducible refine @And.intro (¬ (_ = _)) _ ?_ ?_); (· first | assumption | (with_reducible assumption)); (conv => whnf))
    | (refine hX _ _ _ _ _ _ ?_; (conv => whnf); fail_if_success show False)
    | (rw [t_si]; (conv => whnf))
    | (refine ⟨_, rfl, ?_⟩; (conv => whnf))
    | (refine ⟨_, _, rfl, ?_⟩; (conv => whnf))
    | (refine ⟨_, _, _, rfl, ?_⟩; (conv => whnf))
    | (refine ⟨_, _, _, _, rfl, ?_⟩; (conv => whnf))
    | (rw [t_lrow hr]; (conv => whnf))
    | (refine And.intro (fun c => ?_) (fun c => ?_) <;> (first | (exact absurd c (by decide +kernel)) | (conv => whnf)))
    | fail)
  simp (disch := omega) only [xl_n, xl_m, nI_dec, nI_sb, xl_0, xl_1, tW_i, t_bn0, t_bn1, Classical.not_not, t_lt, nI_add, nI_1, pk_mul, nI_clamp, t_si, nI_eq, nI_leI, nM_ne, nM_ne, xm_set, xm_lv0, xm_psh] at *
  exact loop 0 (Nat.zero_le _) _ t_off.u (tA_d hh)
theorem ct_X11_diesOf {Iv : xI} (hI : xm_good Iv) : xm_Ct Iv yX11_diesOf (ws_ yX11_diesOf cX11_diesOf 4 none) 2 0 0 S_X11_diesOf := xm_enter (rt := 2) (init := false) (by decide +kernel) rfl (fun h => by cases h) (Or.inr (Or.inr (Or.inl ⟨rfl, rfl⟩))) (oX11_diesOf hI) body_X11_diesOf
theorem cv_X11_diesOf {Iv : xI} {own : String} {cc : ByteArray} {fr pc idx : Nat} (hI : xm_good Iv) (hdg : decode cc pc = .ok (.invokevirtual idx, 3)) (hl : xm_ml own idx yX11_diesOf) (hfr : 2 < fr) : xm_CallOK Iv own cc fr pc (pc + 3) 3 0 0 (xm_this 8 S_X11_diesOf) := xm_callV 8 hI (ct_X11_diesOf hI) hdg hl q2385 qs97 q145 q2386 rfl rfl (by decide +kernel) hfr (by decide)
