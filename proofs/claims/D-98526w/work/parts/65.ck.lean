/-! ===== the reference: fates ===== -/
set_option maxRecDepth 100000
def g_fate (K : gK) (q : Int32) (n : Nat) (s : Int32 × gT) : Int32 × gT := t_fold n (fun _ s => g_goesL K q s) s
theorem g_fate_s {K : gK} {q : Int32} {n : Nat} {s : Int32 × gT} : g_fate K q (n + 1) s = g_goesL K q (g_fate K q n s) := rfl
/-- the troupe behind n years of lots -/
def g_fated (G : gG) (seed q : Int32) (n : Nat) : gT := (g_fate (gGK G) q n (seed, gnow G)).2
/-- but for lotsBelow -/
def t_sb (I J : tI) : Prop := (∀ b, b ≠ 0 → ¬ t_free b → J b = I b) ∧ ∀ k, k ≠ 0 → ¬ t_scf k → k ≠ 44 → k ≠ 45 → J 0 k = I 0 k
theorem t_sp.sb {I J : tI} (h : t_sp I J) : t_sb I J := ⟨h.1, fun k a b c _ => h.2 k a b c⟩
theorem t_sb.tr {I J L : tI} (h : t_sb I J) (h2 : t_sb J L) : t_sb I L := ⟨fun b a c => (h2.1 b a c).trans (h.1 b a c), fun k a b c d => (h2.2 k a b c d).trans (h.2 k a b c d)⟩
theorem t_sb.fx {I J : tI} (h : t_sb I J) : ∀ b, t_fx b → J b = I b := fun b hb => h.1 b (t_fx_scr hb).2 (fun q => by
  rcases q with q | q
  · exact (t_fx_scr hb).1 q
  · unfold t_fx at hb; omega)
abbrev bX11_fatesBy_0 : List xE := [(.aload_n 0, 1, 0, 0, 0), (.getfield 91, 4, 8, 36, 1), (.aload_n 0, 5, 0, 0, 0), (.getfield 100, 8, 8, 39, 1), (.invokestatic 266, 11, 0, 0, 9), (.aload_n 0, 12, 0, 0, 0), (.iload_n 1, 13, 0, 0, 0), (.putfield 374, 16, 8, 44, 0), (.aload_n 0, 17, 0, 0, 0), (.iload_n 2, 18, 0, 0, 0), (.putfield 371, 21, 8, 45, 0), (.iconst 0, 22, 0, 0, 0), (.istore 4, 24, 0, 0, 0)]
abbrev bX11_fatesBy_24 : List xE := [(.iload 4, 26, 0, 0, 0), (.iload_n 3, 27, 0, 0, 0), (.if_icmp .ge 17, 30, 0, 44, 0), (.aload_n 0, 31, 0, 0, 0), (.aload_n 0, 32, 0, 0, 0), (.getfield 100, 35, 8, 39, 1), (.invokevirtual 385, 38, 0, 1, 9), (.iinc 4 1, 41, 0, 0, 0), (.goto (-17), 44, 0, 24, 0)]
abbrev bX11_fatesBy_44 : List xE := [(.aload_n 0, 45, 0, 0, 0), (.iconst 0, 46, 0, 0, 0), (.putfield 371, 49, 8, 45, 0), (.return_, 50, 0, 0, 0)]
abbrev kX11_fatesBy : List (Nat × List xE) := [(0, bX11_fatesBy_0), (24, bX11_fatesBy_24), (44, bX11_fatesBy_44)]
abbrev lX11_fatesBy : List (Nat × Nat × Nat × xS) := [(2, 0, 0, S_X11_copies), (2, 0, 0, xm_this 8 S_X11_goes)]
theorem oX11_fatesBy_0 {Iv : xI} (hI : xm_good Iv)  : xm_okb Iv RX11 cX11_fatesBy false 7 lX11_fatesBy bX11_fatesBy_0 0 := xo_0 dX11_fatesBy_0 rfl trivial (xo_1 dX11_fatesBy_1 rfl (xm_fg_of (Or.inl q1991) (by decide) rfl (by decide) rfl rfl (Or.inl rfl) rfl) (xo_0 dX11_fatesBy_4 rfl trivial (xo_1 dX11_fatesBy_5 rfl (xm_fg_of (Or.inl q1994) (by decide) rfl (by decide) rfl rfl (Or.inl rfl) rfl) (xo_c rfl (cv_X11_copies hI dX11_fatesBy_8 (Or.inl q1948) (by decide)) (xo_0 dX11_fatesBy_11 rfl trivial (xo_0 dX11_fatesBy_12 rfl trivial (xo_0 dX11_fatesBy_13 rfl (xm_fp_of (xm_fg_of (Or.inl q1999) (by decide) rfl (by decide) rfl rfl (Or.inl rfl) rfl) (by decide) rfl (Or.inl ⟨rfl, rfl⟩) rfl) (xo_0 dX11_fatesBy_16 rfl trivial (xo_0 dX11_fatesBy_17 rfl trivial (xo_0 dX11_fatesBy_18 rfl (xm_fp_of (xm_fg_of (Or.inl q2000) (by decide) rfl (by decide) rfl rfl (Or.inl rfl) rfl) (by decide) rfl (Or.inl ⟨rfl, rfl⟩) rfl) (xo_0 dX11_fatesBy_21 rfl trivial (xo_0 dX11_fatesBy_22 rfl trivial (xo_n)))))))))))))
theorem oX11_fatesBy_24 {Iv : xI} (hI : xm_good Iv)  : xm_okb Iv RX11 cX11_fatesBy false 7 lX11_fatesBy bX11_fatesBy_24 24 := xo_0 dX11_fatesBy_24 rfl trivial (xo_0 dX11_fatesBy_26 rfl trivial (xo_0 dX11_fatesBy_27 rfl rfl (xo_0 dX11_fatesBy_30 rfl trivial (xo_0 dX11_fatesBy_31 rfl trivial (xo_1 dX11_fatesBy_32 rfl (xm_fg_of (Or.inl q1994) (by decide) rfl (by decide) rfl rfl (Or.inl rfl) rfl) (xo_c rfl (cv_X11_goes hI dX11_fatesBy_35 (Or.inl q2378) (by decide)) (xo_0 dX11_fatesBy_38 rfl trivial (xo_0 dX11_fatesBy_41 rfl rfl (xo_n)))))))))
theorem oX11_fatesBy_44 {Iv : xI} (hI : xm_good Iv)  : xm_okb Iv RX11 cX11_fatesBy false 7 lX11_fatesBy bX11_fatesBy_44 44 := xo_0 dX11_fatesBy_44 rfl trivial (xo_0 dX11_fatesBy_45 rfl trivial (xo_0 dX11_fatesBy_46 rfl (xm_fp_of (xm_fg_of (Or.inl q2000) (by decide) rfl (by decide) rfl rfl (Or.inl rfl) rfl) (by decide) rfl (Or.inl ⟨rfl, rfl⟩) rfl) (xo_0 dX11_fatesBy_49 rfl trivial (xo_n))))
theorem oX11_fatesBy {Iv : xI} (hI : xm_good Iv)  : ∀ q ∈ kX11_fatesBy, xm_okb Iv RX11 cX11_fatesBy false 7 lX11_fatesBy q.2 q.1 := by
  intro q hq
  simp only [List.mem_cons, List.not_mem_nil, or_false] at hq
  rcases hq with rfl | rfl | rfl
  · exact oX11_fatesBy_0 hI  
  · exact oX11_fatesBy_24 hI  
  · exact oX11_fatesBy_44 hI  
def S_X11_fatesBy : xS := tU fun as I Q => ∃ seed q n, as = [.ref 0, .int seed, .int q, .int (nI n)] ∧ t_good I ∧ n ≤ 40 ∧ ∀ J, t_sp I J → J 0 0 = I 0 0 → tA J 39 = g_fated (tG I) seed q n → Q none J
theorem body_X11_fatesBy : xm_Body 5 2 0 0 [] lX11_fatesBy kX11_fatesBy S_X11_fatesBy := by
  intro X avs w Q QX hX0 hS
  have hG := xm_go [] hX0
  have hX := xm_go [24] hX0
  clear hX0
  obtain ⟨I, rfl, seed, q, n, rfl, hg, hn40, hQ⟩ := hS
  have hok := hg.1
  have hl := hg.2.1
  have loop : ∀ k, k ≤ n → ∀ M, t_sb I M → M 0 0 = I 0 0 → M 0 45 = q → (M 0 44, tA M 39) = g_fate (tK I) q k (seed, tA I 36) → X 24 [some (.ref 0), some (.int seed), some (.int q), some (.int (nI n)), some (.int (nI k))] [] (tW M) 0 0 := by
    refine t_for fun k h1 ih M hM h0 h45 hF => ?_
    have nx := ih (k + 1) (by omega)
    clear ih
    have hokM : t_ok M := t_ok_eq hok (hM.fx 12 (Or.inl rfl))
    have hlM : t_lok M := t_lok_eq hl (fun k hk => hM.fx _ (by unfold t_fx; omega)) (hM.2 27 (by decide) (by unfold t_scf; omega) (by decide) (by decide))
    have eK : tK M = tK I := tK_eq hok hl hM.fx (hM.2 27 (by decide) (by unfold t_scf; omega) (by decide) (by decide))
    refine hG _ _ _ _ _ _ ?_
    (conv => whnf)
    repeat' (first
      | ((with_reducible refine @And.intro (vp_in _ _) _ ?_ ?_); (· (first | with_reducible assumption | ((with_reducible refine t_vin ?_); decide) | ((with_reducible refine vp_in_nI ?_ ?_) <;> first | omega | decide) | (simp (disch := omega) only [xl_n, xl_m, nI_dec, nI_sb, nI_add, pk_mul]; (with_reducible refine vp_in_nI ?_ ?_) <;> first | omega | decide))); (conv => whnf))
      | (refine And.intro (by first | with_reducible assumption | exact (show tL _ = _ from rfl) | decide) ?_; (conv => whnf))
      | ((with_reducible refine @And.intro (_ = _) _ ?_ ?_); (· rfl); (conv => whnf))
      | ((with_reducible refine @And.intro (@LE.le Nat _ _ _) _ ?_ ?_); (· (first | exact Nat.zero_le _ | exact Nat.le_of_ble_eq_true rfl | omega)); (conv => whnf))
      | ((with_reducible refine @And.intro (@LT.lt Nat _ _ _) _ ?_ ?_); (· omega); (conv => whnf))
      | ((with_reducible refine @And.intro (∃ _, _ = _) _ ?_ ?_); (· exact ⟨_, rfl⟩); (conv => whnf))
      | ((with_reducible refine @And.intro (_ ∨ _) _ ?_ ?_); (· (first | exact Or.inl rfl | exact Or.inr rfl | exact t_b01 _ | assumption)); (conv => whnf))
      | ((with_reducible refine @And.intro (¬ (_ = _)) _ ?_ ?_); (· first | assumption | (with_reducible assumption)); (conv => whnf))
      | (refine hX _ _ _ _ _ _ ?_; (conv => whnf); fail_if_success show False)
      | (rw [t_si]; (conv => whnf))
      | (refine ⟨_, rfl, ?_⟩; (conv => whnf))
      | (refine ⟨_, _, rfl, ?_⟩; (conv => whnf))
      | (refine ⟨_, _, _, rfl, ?_⟩; (conv => whnf))
      | (refine ⟨_, _, _, _, rfl, ?_⟩; (conv => whnf))
      | fail)
    refine And.intro (fun c => ?_) (fun c => ?_) <;> (conv => whnf)
    · have : k = n := Nat.le_antisymm h1 (t_kge rfl c (by omega) (by omega))
      subst this
      repeat' (first
        | ((with_reducible refine @And.intro (vp_in _ _) _ ?_ ?_); (· (first | with_reducible assumption | ((with_reducible refine t_vin ?_); decide) | ((with_reducible refine vp_in_nI ?_ ?_) <;> first | omega | decide) | (simp (disch := omega) only [xl_n, xl_m, nI_dec, nI_sb, nI_add, pk_mul]; (with_reducible refine vp_in_nI ?_ ?_) <;> first | omega | decide))); (conv => whnf))
        | (refine And.intro (by first | with_reducible assumption | exact (show tL _ = _ from rfl) | decide) ?_; (conv => whnf))
        | ((with_reducible refine @And.intro (_ = _) _ ?_ ?_); (· rfl); (conv => whnf))
        | ((with_reducible refine @And.intro (@LE.le Nat _ _ _) _ ?_ ?_); (· (first | exact Nat.zero_le _ | exact Nat.le_of_ble_eq_true rfl | omega)); (conv => whnf))
        | ((with_reducible refine @And.intro (@LT.lt Nat _ _ _) _ ?_ ?_); (· omega); (conv => whnf))
        | ((with_reducible refine @And.intro (∃ _, _ = _) _ ?_ ?_); (· exact ⟨_, rfl⟩); (conv => whnf))
        | ((with_reducible refine @And.intro (_ ∨ _) _ ?_ ?_); (· (first | exact Or.inl rfl | exact Or.inr rfl | exact t_b01 _ | assumption)); (conv => whnf))
        | ((with_reducible refine @And.intro (¬ (_ = _)) _ ?_ ?_); (· first | assumption | (with_reducible assumption)); (conv => whnf))
        | (refine hX _ _ _ _ _ _ ?_; (conv => whnf); fail_if_success show False)
        | (rw [t_si]; (conv => whnf))
        | (refine ⟨_, rfl, ?_⟩; (conv => whnf))
        | (refine ⟨_, _, rfl, ?_⟩; (conv => whnf))
        | (refine ⟨_, _, _, rfl, ?_⟩; (conv => whnf))
        | (refine ⟨_, _, _, _, rfl, ?_⟩; (conv => whnf))
        | (refine And.intro (fun c => ?_) (fun c => ?_) <;> (first | (exact absurd c (by decide +kernel)) | (conv => whnf)))
        | fail)
      have hs : t_sp I (xm_u2 M 0 45 (Int32.ofInt 0)) := ⟨fun b hb hf => by
        rw [← hM.1 b hb hf]
        exact funext fun j => xm_u2_ne hb j, fun j a b c => by
        rw [xm_u2_at]
        by_cases e : j = 45
        · rw [if_pos e, e, hg.2.2.1]
          exact xl_n.1
        · rw [if_neg e]
          exact hM.2 j a b c e⟩
      refine hQ _ hs (by rw [xm_u2_at, if_neg (by decide)]; exact h0) ?_
      rw [tA_u (by decide)]
      exact (congrArg Prod.snd hF)
    · have hk : k < n := t_klt rfl c (by omega)
      repeat' (first
        | ((with_reducible refine @And.intro (vp_in _ _) _ ?_ ?_); (· (first | with_reducible assumption | ((with_reducible refine t_vin ?_); decide) | ((with_reducible refine vp_in_nI ?_ ?_) <;> first | omega | decide) | (simp (disch := omega) only [xl_n, xl_m, nI_dec, nI_sb, nI_add, pk_mul]; (with_reducible refine vp_in_nI ?_ ?_) <;> first | omega | decide))); (conv => whnf))
        | (refine And.intro (by first | with_reducible assumption | exact (show tL _ = _ from rfl) | decide) ?_; (conv => whnf))
        | ((with_reducible refine @And.intro (_ = _) _ ?_ ?_); (· rfl); (conv => whnf))
        | ((with_reducible refine @And.intro (@LE.le Nat _ _ _) _ ?_ ?_); (· (first | exact Nat.zero_le _ | exact Nat.le_of_ble_eq_true rfl | omega)); (conv => whnf))
        | ((with_reducible refine @And.intro (@LT.lt Nat _ _ _) _ ?_ ?_); (· omega); (conv => whnf))
        | ((with_reducible refine @And.intro (∃ _, _ = _) _ ?_ ?_); (· exact ⟨_, rfl⟩); (conv => whnf))
        | ((with_reducible refine @And.intro (_ ∨ _) _ ?_ ?_); (· (first | exact Or.inl rfl | exact Or.inr rfl | exact t_b01 _ | assumption)); (conv => whnf))
        | ((with_reducible refine @And.intro (¬ (_ = _)) _ ?_ ?_); (· first | assumption | (with_reducible assumption)); (conv => whnf))
        | (refine hX _ _ _ _ _ _ ?_; (conv => whnf); fail_if_success show False)
        | (rw [t_si]; (conv => whnf))
        | (refine ⟨_, rfl, ?_⟩; (conv => whnf))
        | (refine ⟨_, _, rfl, ?_⟩; (conv => whnf))
        | (refine ⟨_, _, _, rfl, ?_⟩; (conv => whnf))
        | (refine ⟨_, _, _, _, rfl, ?_⟩; (conv => whnf))
        | (refine And.intro (fun c => ?_) (fun c => ?_) <;> (first | (exact absurd c (by decide +kernel)) | (conv => whnf)))
        | fail)
      intro L hL hE
      have := nx hk L (hM.tr ((hL.sp t_f39).sb)) ((hL.2 0 (by unfold t_scf; omega) (by decide)).trans h0) ((hL.2 45 (by unfold t_scf; omega) (by decide)).trans h45) (by
        rw [g_fate_s, ← hF, ← hE, eK, h45])
      clear nx
      (conv => whnf)
      repeat' (first
        | ((with_reducible refine @And.intro (vp_in _ _) _ ?_ ?_); (· (first | with_reducible assumption | ((with_reducible refine t_vin ?_); decide) | ((with_reducible refine vp_in_nI ?_ ?_) <;> first | omega | decide) | (simp (disch := omega) only [xl_n, xl_m, nI_dec, nI_sb, nI_add, pk_mul]; (with_reducible refine vp_in_nI ?_ ?_) <;> first | omega | decide))); (conv => whnf))
        | (refine And.intro (by first | with_reducible assumption | exact (show tL _ = _ from rfl) | decide) ?_; (conv => whnf))
        | ((with_reducible refine @And.intro (_ = _) _ ?_ ?_); (· rfl); (conv => whnf))
        | ((with_reducible refine @And.intro (@LE.le Nat _ _ _) _ ?_ ?_); (· (first | exact Nat.zero_le _ | exact Nat.le_of_ble_eq_true rfl | omega)); (conv => whnf))
        | ((with_reducible refine @And.intro (@LT.lt Nat _ _ _) _ ?_ ?_); (· omega); (conv => whnf))
        | ((with_reducible refine @And.intro (∃ _, _ = _) _ ?_ ?_); (· exact ⟨_, rfl⟩); (conv => whnf))
        | ((with_reducible refine @And.intro (_ ∨ _) _ ?_ ?_); (· (first | exact Or.inl rfl | exact Or.inr rfl | exact t_b01 _ | assumption)); (conv => whnf))
        | ((with_reducible refine @And.intro (¬ (_ = _)) _ ?_ ?_); (· first | assumption | (with_reducible assumption)); (conv => whnf))
        | (refine hX _ _ _ _ _ _ ?_; (conv => whnf); fail_if_success show False)
        | (rw [t_si]; (conv => whnf))
        | (refine ⟨_, rfl, ?_⟩; (conv => whnf))
        | (refine ⟨_, _, rfl, ?_⟩; (conv => whnf))
        | (refine ⟨_, _, _, rfl, ?_⟩; (conv => whnf))
        | (refine ⟨_, _, _, _, rfl, ?_⟩; (conv => whnf))
        | (refine And.intro (fun c => ?_) (fun c => ?_) <;> (first | (exact absurd c (by decide +kernel)) | (conv => whnf)))
        | fail)
      clear hX hG hQ
      simp (disch := omega) only [xl_n, xl_m, nI_dec, nI_sb, xl_0, xl_1, tW_i, t_bn0, t_bn1, Classical.not_not, t_lt, nI_add, nI_1, pk_mul, nI_clamp, t_si, nI_eq, nI_leI, nM_ne, nM_ne, xm_set, xm_lv0, xm_psh] at *
      exact this
  refine ⟨rfl, ?_⟩
  repeat' (first
    | ((with_reducible refine @And.intro (vp_in _ _) _ ?_ ?_); (· (first | with_reducible assumption | ((with_reducible refine t_vin ?_); decide) | ((with_reducible refine vp_in_nI ?_ ?_) <;> first | omega | decide) | (simp (disch := omega) only [xl_n, xl_m, nI_dec, nI_sb, nI_add, pk_mul]; (with_reducible refine vp_in_nI ?_ ?_) <;> first | omega | decide))); (conv => whnf))
    | (refine And.intro (by first | with_reducible assumption | exact (show tL _ = _ from rfl) | decide) ?_; (conv => whnf))
    | ((with_reducible refine @And.intro (_ = _) _ ?_ ?_); (· rfl); (conv => whnf))
    | ((with_reducible refine @And.intro (@LE.le Nat _ _ _) _ ?_ ?_); (· (first | exact Nat.zero_le _ | exact Nat.le_of_ble_eq_true rfl | omega)); (conv => whnf))
    | ((with_reducible refine @And.intro (@LT.lt Nat _ _ _) _ ?_ ?_); (· omega); (conv => whnf))
    | ((with_reducible refine @And.intro (∃ _, _ = _) _ ?_ ?_); (· exact ⟨_, rfl⟩); (conv => whnf))
    | ((with_reducible refine @And.intro (_ ∨ _) _ ?_ ?_); (· (first | exact Or.inl rfl | exact Or.inr rfl | exact t_b01 _ | assumption)); (conv => whnf))
    | ((with_reducible refine @And.intro (¬ (_ = _)) _ ?_ ?_); (· first | assumption | (with_reducible assumption)); (conv => whnf))
    | (refine hX _ _ _ _ _ _ ?_; (conv => whnf); fail_if_success show False)
    | (rw [t_si]; (conv => whnf))
    | (refine ⟨_, rfl, ?_⟩; (conv => whnf))
    | (refine ⟨_, _, rfl, ?_⟩; (conv => whnf))
    | (refine ⟨_, _, _, rfl, ?_⟩; (conv => whnf))
    | (refine ⟨_, _, _, _, rfl, ?_⟩; (conv => whnf))
    | (refine And.intro (fun c => ?_) (fun c => ?_) <;> (first | (exact absurd c (by decide +kernel)) | (conv => whnf)))
    | fail)
  intro M hM hk
  (conv => whnf)
  repeat' (first
    | ((with_reducible refine @And.intro (vp_in _ _) _ ?_ ?_); (· (first | with_reducible assumption | ((with_reducible refine t_vin ?_); decide) | ((with_reducible refine vp_in_nI ?_ ?_) <;> first | omega | decide) | (simp (disch := omega) only [xl_n, xl_m, nI_dec, nI_sb, nI_add, pk_mul]; (with_reducible refine vp_in_nI ?_ ?_) <;> first | omega | decide))); (conv => whnf))
    | (refine And.intro (by first | with_reducible assumption | exact (show tL _ = _ from rfl) | decide) ?_; (conv => whnf))
    | ((with_reducible refine @And.intro (_ = _) _ ?_ ?_); (· rfl); (conv => whnf))
    | ((with_reducible refine @And.intro (@LE.le Nat _ _ _) _ ?_ ?_); (· (first | exact Nat.zero_le _ | exact Nat.le_of_ble_eq_true rfl | omega)); (conv => whnf))
    | ((with_reducible refine @And.intro (@LT.lt Nat _ _ _) _ ?_ ?_); (· omega); (conv => whnf))
    | ((with_reducible refine @And.intro (∃ _, _ = _) _ ?_ ?_); (· exact ⟨_, rfl⟩); (conv => whnf))
    | ((with_reducible refine @And.intro (_ ∨ _) _ ?_ ?_); (· (first | exact Or.inl rfl | exact Or.inr rfl | exact t_b01 _ | assumption)); (conv => whnf))
    | ((with_reducible refine @And.intro (¬ (_ = _)) _ ?_ ?_); (· first | assumption | (with_reducible assumption)); (conv => whnf))
    | (refine hX _ _ _ _ _ _ ?_; (conv => whnf); fail_if_success show False)
    | (rw [t_si]; (conv => whnf))
    | (refine ⟨_, rfl, ?_⟩; (conv => whnf))
    | (refine ⟨_, _, rfl, ?_⟩; (conv => whnf))
    | (refine ⟨_, _, _, rfl, ?_⟩; (conv => whnf))
    | (refine ⟨_, _, _, _, rfl, ?_⟩; (conv => whnf))
    | (refine And.intro (fun c => ?_) (fun c => ?_) <;> (first | (exact absurd c (by decide +kernel)) | (conv => whnf)))
    | fail)
  refine loop 0 (Nat.zero_le _) _ (((hM.sc (by decide)).sl.sp t_f39).sb.tr ⟨fun b hb _ => funext fun j => by rw [xm_u2_ne hb, xm_u2_ne hb], fun j a b c d => by rw [xm_u2_at, if_neg d, xm_u2_at, if_neg c]⟩) ?_ ?_ ?_
  · rw [xm_u2_at, if_neg (by decide), xm_u2_at, if_neg (by decide), hM 0 (by decide)]
  · rw [xm_u2_at, if_pos rfl]
  · rw [xm_u2_at, if_neg (by decide), xm_u2_at, if_pos rfl, tA_u (by decide), tA_u (by decide), t_copy hM hk]
    rfl
theorem ct_X11_fatesBy {Iv : xI} (hI : xm_good Iv) : xm_Ct Iv yX11_fatesBy (ws_ yX11_fatesBy cX11_fatesBy 5 none) 7 0 0 S_X11_fatesBy := xm_enter (rt := 2) (init := false) (by decide +kernel) rfl (fun h => by cases h) (Or.inr (Or.inr (Or.inl ⟨rfl, rfl⟩))) (oX11_fatesBy hI) body_X11_fatesBy
theorem cv_X11_fatesBy {Iv : xI} {own : String} {cc : ByteArray} {fr pc idx : Nat} (hI : xm_good Iv) (hdg : decode cc pc = .ok (.invokevirtual idx, 3)) (hl : xm_ml own idx yX11_fatesBy) (hfr : 7 < fr) : xm_CallOK Iv own cc fr pc (pc + 3) 4 0 0 (xm_this 8 S_X11_fatesBy) := xm_callV 8 hI (ct_X11_fatesBy hI) hdg hl q2602 qs114 q145 q2603 rfl rfl (by decide +kernel) hfr (by decide)
