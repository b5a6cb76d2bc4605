/-! ===== the reference: rows laid ===== -/
set_option maxRecDepth 100000
abbrev bX11_lays_0 : List xE := [(.iconst 0, 1, 0, 0, 0), (.istore_n 3, 2, 0, 0, 0)]
abbrev bX11_lays_2 : List xE := [(.iload_n 3, 3, 0, 0, 0), (.iload_n 2, 4, 0, 0, 0), (.if_icmp .ge 39, 7, 0, 43, 0), (.iconst 0, 8, 0, 0, 0), (.istore 4, 10, 0, 0, 0)]
abbrev bX11_lays_10 : List xE := [(.iload 4, 12, 0, 0, 0), (.aload_n 1, 13, 0, 0, 0), (.iload_n 3, 14, 0, 0, 0), (.aaload, 15, 0, 0, 0), (.arraylength, 16, 0, 0, 0), (.if_icmp .ge 21, 19, 0, 37, 0), (.aload_n 1, 20, 0, 0, 0), (.iload_n 3, 21, 0, 0, 0), (.aaload, 22, 0, 0, 0), (.iload 4, 24, 0, 0, 0), (.aload_n 0, 25, 0, 0, 0), (.iload_n 3, 26, 0, 0, 0), (.aaload, 27, 0, 0, 0), (.iload 4, 29, 0, 0, 0), (.iaload, 30, 0, 0, 0), (.iastore, 31, 0, 0, 0), (.iinc 4 1, 34, 0, 0, 0), (.goto (-24), 37, 0, 10, 0)]
abbrev bX11_lays_37 : List xE := [(.iinc 3 1, 40, 0, 0, 0), (.goto (-38), 43, 0, 2, 0)]
abbrev bX11_lays_43 : List xE := [(.return_, 44, 0, 0, 0)]
abbrev kX11_lays : List (Nat × List xE) := [(0, bX11_lays_0), (2, bX11_lays_2), (10, bX11_lays_10), (37, bX11_lays_37), (43, bX11_lays_43)]
abbrev lX11_lays : List (Nat × Nat × Nat × xS) := []
theorem oX11_lays_0 {Iv : xI} (hI : xm_good Iv)  : xm_okb Iv RX11 cX11_lays false 1 lX11_lays bX11_lays_0 0 := xo_0 dX11_lays_0 rfl trivial (xo_0 dX11_lays_1 rfl trivial (xo_n))
theorem oX11_lays_2 {Iv : xI} (hI : xm_good Iv)  : xm_okb Iv RX11 cX11_lays false 1 lX11_lays bX11_lays_2 2 := xo_0 dX11_lays_2 rfl trivial (xo_0 dX11_lays_3 rfl trivial (xo_0 dX11_lays_4 rfl rfl (xo_0 dX11_lays_7 rfl trivial (xo_0 dX11_lays_8 rfl trivial (xo_n)))))
theorem oX11_lays_10 {Iv : xI} (hI : xm_good Iv)  : xm_okb Iv RX11 cX11_lays false 1 lX11_lays bX11_lays_10 10 := xo_0 dX11_lays_10 rfl trivial (xo_0 dX11_lays_12 rfl trivial (xo_0 dX11_lays_13 rfl trivial (xo_0 dX11_lays_14 rfl trivial (xo_0 dX11_lays_15 rfl trivial (xo_0 dX11_lays_16 rfl rfl (xo_0 dX11_lays_19 rfl trivial (xo_0 dX11_lays_20 rfl trivial (xo_0 dX11_lays_21 rfl trivial (xo_0 dX11_lays_22 rfl trivial (xo_0 dX11_lays_24 rfl trivial (xo_0 dX11_lays_25 rfl trivial (xo_0 dX11_lays_26 rfl trivial (xo_0 dX11_lays_27 rfl trivial (xo_0 dX11_lays_29 rfl trivial (xo_0 dX11_lays_30 rfl trivial (xo_0 dX11_lays_31 rfl trivial (xo_0 dX11_lays_34 rfl rfl (xo_n))))))))))))))))))
theorem oX11_lays_37 {Iv : xI} (hI : xm_good Iv)  : xm_okb Iv RX11 cX11_lays false 1 lX11_lays bX11_lays_37 37 := xo_0 dX11_lays_37 rfl trivial (xo_0 dX11_lays_40 rfl rfl (xo_n))
theorem oX11_lays_43 {Iv : xI} (hI : xm_good Iv)  : xm_okb Iv RX11 cX11_lays false 1 lX11_lays bX11_lays_43 43 := xo_0 dX11_lays_43 rfl trivial (xo_n)
theorem oX11_lays {Iv : xI} (hI : xm_good Iv)  : ∀ q ∈ kX11_lays, xm_okb Iv RX11 cX11_lays false 1 lX11_lays q.2 q.1 := by
  intro q hq
  simp only [List.mem_cons, List.not_mem_nil, or_false] at hq
  rcases hq with rfl | rfl | rfl | rfl | rfl
  · exact oX11_lays_0 hI  
  · exact oX11_lays_2 hI  
  · exact oX11_lays_10 hI  
  · exact oX11_lays_37 hI  
  · exact oX11_lays_43 hI  
def S_X11_lays : xS := tU fun as I Q => ∃ A B m, as = [.ref A, .ref B, .int (nI m)] ∧ ∃ fb tb L cA cB, m ≤ cA ∧ cA ≤ 160 ∧ m ≤ cB ∧ cB ≤ 160 ∧ L ≤ 9 ∧ tL A = some (110, cA) ∧ tL B = some (110, cB) ∧ (∀ k, k < m → tR A k = some (fb + k) ∧ tL (fb + k) = some (100, L) ∧ tR B k = some (tb + k) ∧ tL (tb + k) = some (100, L)) ∧ (fb + m ≤ tb ∨ tb + m ≤ fb) ∧ ∀ J, t_z (fun b => tb ≤ b ∧ b < tb + m) I (fun b i => I (fb + (b - tb)) i) (fun b i => (tb ≤ b ∧ b < tb + m) ∧ i < L) J → Q none J
theorem body_X11_lays : xm_Body 5 2 0 0 [] lX11_lays kX11_lays S_X11_lays := by
  intro X avs w Q QX hX0 hS
  have hG := xm_go [] hX0
  have hX := xm_go [2, 10] hX0
  clear hX0
  obtain ⟨I, rfl, A, B, m, rfl, fb, tb, L, cA, cB, hmA, hcA, hmB, hcB, hL, hA, hB, hk, hd, hQ⟩ := hS
  have l10 : ∀ k, k < m → (∀ M o, (o = none ∨ ∃ z, o = some (.int z)) → t_z (fun b => tb ≤ b ∧ b < tb + m) I (fun b i => I (fb + (b - tb)) i) (fun b i => (tb ≤ b ∧ b < tb + (k + 1)) ∧ i < L) M → X 2 [some (.ref A), some (.ref B), some (.int (nI m)), some (.int (nI (k + 1))), o] [] (tW M) 0 0) → ∀ i, i ≤ L → ∀ M, t_z (fun b => tb ≤ b ∧ b < tb + m) I (fun b i => I (fb + (b - tb)) i) (fun b κ => ((tb ≤ b ∧ b < tb + k) ∧ κ < L) ∨ (b = tb + k ∧ κ < i)) M → X 10 [some (.ref A), some (.ref B), some (.int (nI m)), some (.int (nI k)), some (.int (nI i))] [] (tW M) 0 0 := by
    intro k hkm hn
    obtain ⟨r1, r2, r3, r4⟩ := hk k hkm
    have hbA : ∀ M : tI, xm_fld (tW M) A (nI k).toNatClampNeg 1 = .ref (fb + k) := fun M => by
      rw [nI_clamp (by omega)]
      have e : (tW M).2.2.1 A k = some (fb + k) := r1
      simp only [xm_fld, e]
      rfl
    have hbB : ∀ M : tI, xm_fld (tW M) B (nI k).toNatClampNeg 1 = .ref (tb + k) := fun M => by
      rw [nI_clamp (by omega)]
      have e : (tW M).2.2.1 B k = some (tb + k) := r3
      simp only [xm_fld, e]
      rfl
    have hA : ∀ M : tI, (tW M).1 A = some (110, cA) := fun _ => hA
    have hB : ∀ M : tI, (tW M).1 B = some (110, cB) := fun _ => hB
    have r2 : ∀ M : tI, (tW M).1 (fb + k) = some (100, L) := fun _ => r2
    have r4 : ∀ M : tI, (tW M).1 (tb + k) = some (100, L) := fun _ => r4
    refine t_for fun i h1 ih M hM => ?_
    rcases Nat.lt_or_ge i L with hi | hi
    · have hlt : ¬ Int32.ofNat L ≤ nI i := nI_ge hi (by omega)
      have := ih (i + 1) (by omega) (by omega) (xm_u2 M (tb + k) i (M (fb + k) i)) (hM.w (by omega) (by
        show M (fb + k) i = I (fb + (tb + k - tb)) i
        rw [show tb + k - tb = k by omega, hM.1 (fb + k) (by omega)]) (fun b κ => by omega))
      clear ih hn
      refine hG _ _ _ _ _ _ ?_
      (conv => whnf)
      repeat' (first
        | ((with_reducible refine @And.intro (vp_in _ _) _ ?_ ?_); (· (first | with_reducible assumption | ((with_reducible refine t_vin ?_); decide) | ((with_reducible refine vp_in_nI ?_ ?_) <;> first | omega | decide) | (simp (disch := omega) only [xl_n, xl_m, nI_dec, nI_sb, nI_add, pk_mul]; (with_reducible refine vp_in_nI ?_ ?_) <;> first | omega | decide))); (conv => whnf))
        | (refine And.intro (by first | with_reducible assumption | exact (show tL _ = _ from rfl) | decide) ?_; (conv => whnf))
        | ((with_reducible refine @And.intro (_ = _) _ ?_ ?_); (· rfl); (conv => whnf))
        | ((with_reducible refine @And.intro (@LE.le Nat _ _ _) _ ?_ ?_); (· (first | exact Nat.zero_le _ | exact Nat.le_of_ble_eq_true rfl | omega)); (conv => whnf))
        | ((with_reducible refine @And.intro (@LT.lt Nat _ _ _) _ ?_ ?_); (· omega); (conv => whnf))
        | ((with_reducible refine @And.intro (∃ _, _ = _) _ ?_ ?_); (· exact ⟨_, rfl⟩); (conv => whnf))
        | ((with_reducible refine @And.intro (_ ∨ _) _ ?_ ?_); (· (first | exact Or.inl rfl | exact Or.inr rfl | exact t_b01 _ | assumption)); (conv => whnf))
        | ((with_reducible refine @And.intro (¬ (_ = _)) _ ?_ ?_); (· first | assumption | (with_reducible assumption)); (conv => whnf))
        | (refine hX _ _ _ _ _ _ ?_; (conv => whnf); fail_if_success show False)
        | (rw [t_si]; simp (disch := omega) only [xl_n, xl_m, nI_dec, nI_sb, xl_0, xl_1, tW_i, t_bn0, t_bn1, Classical.not_not, t_lt, nI_add, nI_1, pk_mul, nI_clamp, t_si, nI_eq, nI_leI, nM_ne, nM_ne, xm_u2_ne, xm_u2_at, reduceIte, tK_u, tA_u, Nat.reduceEqDiff]; (conv => whnf))
        | (refine ⟨_, rfl, ?_⟩; (conv => whnf))
        | (refine ⟨_, _, rfl, ?_⟩; (conv => whnf))
        | (refine ⟨_, _, _, rfl, ?_⟩; (conv => whnf))
        | (refine ⟨_, _, _, _, rfl, ?_⟩; (conv => whnf))
        | (rw [hA]; (conv => whnf))
        | (rw [hB]; (conv => whnf))
        | (rw [r2]; (conv => whnf))
        | (rw [r4]; (conv => whnf))
        | (rw [hbA]; (conv => whnf))
        | (rw [hbB]; (conv => whnf))
        | (refine And.intro (fun c => ?_) (fun c => ?_) <;> (first | (exact absurd c (by decide +kernel)) | (exact absurd c (by assumption)) | (exact False.elim (c (by assumption))) | (conv => whnf)))
        | fail)
      clear hX hG
      simp (disch := omega) only [xl_n, xl_m, nI_dec, nI_sb, xl_0, xl_1, tW_i, t_bn0, t_bn1, Classical.not_not, t_lt, nI_add, nI_1, pk_mul, nI_clamp, t_si, nI_eq, nI_leI, nM_ne, nM_ne, xm_set] at *
      exact this
    · have e : i = L := by omega
      subst e
      have hlt : Int32.ofNat i ≤ nI i := nI_le (Nat.le_refl _) (by omega)
      have := hn M (some (.int (nI i))) (Or.inr ⟨_, rfl⟩) (hM.s fun b κ => by omega)
      clear ih hn
      refine hG _ _ _ _ _ _ ?_
      (conv => whnf)
      repeat' (first
        | ((with_reducible refine @And.intro (vp_in _ _) _ ?_ ?_); (· (first | with_reducible assumption | ((with_reducible refine t_vin ?_); decide) | ((with_reducible refine vp_in_nI ?_ ?_) <;> first | omega | decide) | (simp (disch := omega) only [xl_n, xl_m, nI_dec, nI_sb, nI_add, pk_mul]; (with_reducible refine vp_in_nI ?_ ?_) <;> first | omega | decide))); (conv => whnf))
        | (refine And.intro (by first | with_reducible assumption | exact (show tL _ = _ from rfl) | decide) ?_; (conv => whnf))
        | ((with_reducible refine @And.intro (_ = _) _ ?_ ?_); (· rfl); (conv => whnf))
        | ((with_reducible refine @And.intro (@LE.le Nat _ _ _) _ ?_ ?_); (· (first | exact Nat.zero_le _ | exact Nat.le_of_ble_eq_true rfl | omega)); (conv => whnf))
        | ((with_reducible refine @And.intro (@LT.lt Nat _ _ _) _ ?_ ?_); (· omega); (conv => whnf))
        | ((with_reducible refine @And.intro (∃ _, _ = _) _ ?_ ?_); (· exact ⟨_, rfl⟩); (conv => whnf))
        | ((with_reducible refine @And.intro (_ ∨ _) _ ?_ ?_); (· (first | exact Or.inl rfl | exact Or.inr rfl | exact t_b01 _ | assumption)); (conv => whnf))
        | ((with_reducible refine @And.intro (¬ (_ = _)) _ ?_ ?_); (· first | assumption | (with_reducible assumption)); (conv => whnf))
        | (refine hX _ _ _ _ _ _ ?_; (conv => whnf); fail_if_success show False)
        | (rw [t_si]; simp (disch := omega) only [xl_n, xl_m, nI_dec, nI_sb, xl_0, xl_1, tW_i, t_bn0, t_bn1, Classical.not_not, t_lt, nI_add, nI_1, pk_mul, nI_clamp, t_si, nI_eq, nI_leI, nM_ne, nM_ne, xm_u2_ne, xm_u2_at, reduceIte, tK_u, tA_u, Nat.reduceEqDiff]; (conv => whnf))
        | (refine ⟨_, rfl, ?_⟩; (conv => whnf))
        | (refine ⟨_, _, rfl, ?_⟩; (conv => whnf))
        | (refine ⟨_, _, _, rfl, ?_⟩; (conv => whnf))
        | (refine ⟨_, _, _, _, rfl, ?_⟩; (conv => whnf))
        | (rw [hA]; (conv => whnf))
        | (rw [hB]; (conv => whnf))
        | (rw [r2]; (conv => whnf))
        | (rw [r4]; (conv => whnf))
        | (rw [hbA]; (conv => whnf))
        | (rw [hbB]; (conv => whnf))
        | (refine And.intro (fun c => ?_) (fun c => ?_) <;> (first | (exact absurd c (by decide +kernel)) | (exact absurd c (by assumption)) | (exact False.elim (c (by assumption))) | (conv => whnf)))
        | fail)
      clear hX hG
      simp (disch := omega) only [xl_n, xl_m, nI_dec, nI_sb, xl_0, xl_1, tW_i, t_bn0, t_bn1, Classical.not_not, t_lt, nI_add, nI_1, pk_mul, nI_clamp, t_si, nI_eq, nI_leI, nM_ne, nM_ne, xm_set] at *
      exact this
  have l2 : ∀ k, k ≤ m → ∀ M o, (o = none ∨ ∃ z, o = some (.int z)) → t_z (fun b => tb ≤ b ∧ b < tb + m) I (fun b i => I (fb + (b - tb)) i) (fun b i => (tb ≤ b ∧ b < tb + k) ∧ i < L) M → X 2 [some (.ref A), some (.ref B), some (.int (nI m)), some (.int (nI k)), o] [] (tW M) 0 0 := by
    refine t_for fun k h1 ih M o ho hM => ?_
    rcases Nat.lt_or_ge k m with hk | hk
    · have hlt : ¬ nI m ≤ nI k := nI_ge hk (by omega)
      have := l10 k hk (ih (k + 1) (by omega) (by omega)) 0 (by omega) M (hM.s fun b κ => by omega)
      clear ih l10
      refine hG _ _ _ _ _ _ ?_
      (conv => whnf)
      repeat' (first
        | ((with_reducible refine @And.intro (vp_in _ _) _ ?_ ?_); (· (first | with_reducible assumption | ((with_reducible refine t_vin ?_); decide) | ((with_reducible refine vp_in_nI ?_ ?_) <;> first | omega | decide) | (simp (disch := omega) only [xl_n, xl_m, nI_dec, nI_sb, nI_add, pk_mul]; (with_reducible refine vp_in_nI ?_ ?_) <;> first | omega | decide))); (conv => whnf))
        | (refine And.intro (by first | with_reducible assumption | exact (show tL _ = _ from rfl) | decide) ?_; (conv => whnf))
        | ((with_reducible refine @And.intro (_ = _) _ ?_ ?_); (· rfl); (conv => whnf))
        | ((with_reducible refine @And.intro (@LE.le Nat _ _ _) _ ?_ ?_); (· (first | exact Nat.zero_le _ | exact Nat.le_of_ble_eq_true rfl | omega)); (conv => whnf))
        | ((with_reducible refine @And.intro (@LT.lt Nat _ _ _) _ ?_ ?_); (· omega); (conv => whnf))
        | ((with_reducible refine @And.intro (∃ _, _ = _) _ ?_ ?_); (· exact ⟨_, rfl⟩); (conv => whnf))
        | ((with_reducible refine @And.intro (_ ∨ _) _ ?_ ?_); (· (first | exact Or.inl rfl | exact Or.inr rfl | exact t_b01 _ | assumption)); (conv => whnf))
        | ((with_reducible refine @And.intro (¬ (_ = _)) _ ?_ ?_); (· first | assumption | (with_reducible assumption)); (conv => whnf))
        | (refine hX _ _ _ _ _ _ ?_; (conv => whnf); fail_if_success show False)
        | (rw [t_si]; simp (disch := omega) only [xl_n, xl_m, nI_dec, nI_sb, xl_0, xl_1, tW_i, t_bn0, t_bn1, Classical.not_not, t_lt, nI_add, nI_1, pk_mul, nI_clamp, t_si, nI_eq, nI_leI, nM_ne, nM_ne, xm_u2_ne, xm_u2_at, reduceIte, tK_u, tA_u, Nat.reduceEqDiff]; (conv => whnf))
        | (refine ⟨_, rfl, ?_⟩; (conv => whnf))
        | (refine ⟨_, _, rfl, ?_⟩; (conv => whnf))
        | (refine ⟨_, _, _, rfl, ?_⟩; (conv => whnf))
        | (refine ⟨_, _, _, _, rfl, ?_⟩; (conv => whnf))
        | (refine And.intro (fun c => ?_) (fun c => ?_) <;> (first | (exact absurd c (by decide +kernel)) | (exact absurd c (by assumption)) | (exact False.elim (c (by assumption))) | (conv => whnf)))
        | fail)
      clear hX hG
      simp (disch := omega) only [xl_n, xl_m, nI_dec, nI_sb, xl_0, xl_1, tW_i, t_bn0, t_bn1, Classical.not_not, t_lt, nI_add, nI_1, pk_mul, nI_clamp, t_si, nI_eq, nI_leI, nM_ne, nM_ne, xm_set] at *
      exact this
    · have e : k = m := by omega
      subst e
      have hlt : nI k ≤ nI k := nI_le (Nat.le_refl _) (by omega)
      clear ih l10
      refine hG _ _ _ _ _ _ ?_
      (conv => whnf)
      repeat' (first
        | ((with_reducible refine @And.intro (vp_in _ _) _ ?_ ?_); (· (first | with_reducible assumption | ((with_reducible refine t_vin ?_); decide) | ((with_reducible refine vp_in_nI ?_ ?_) <;> first | omega | decide) | (simp (disch := omega) only [xl_n, xl_m, nI_dec, nI_sb, nI_add, pk_mul]; (with_reducible refine vp_in_nI ?_ ?_) <;> first | omega | decide))); (conv => whnf))
        | (refine And.intro (by first | with_reducible assumption | exact (show tL _ = _ from rfl) | decide) ?_; (conv => whnf))
        | ((with_reducible refine @And.intro (_ = _) _ ?_ ?_); (· rfl); (conv => whnf))
        | ((with_reducible refine @And.intro (@LE.le Nat _ _ _) _ ?_ ?_); (· (first | exact Nat.zero_le _ | exact Nat.le_of_ble_eq_true rfl | omega)); (conv => whnf))
        | ((with_reducible refine @And.intro (@LT.lt Nat _ _ _) _ ?_ ?_); (· omega); (conv => whnf))
        | ((with_reducible refine @And.intro (∃ _, _ = _) _ ?_ ?_); (· exact ⟨_, rfl⟩); (conv => whnf))
        | ((with_reducible refine @And.intro (_ ∨ _) _ ?_ ?_); (· (first | exact Or.inl rfl | exact Or.inr rfl | exact t_b01 _ | assumption)); (conv => whnf))
        | ((with_reducible refine @And.intro (¬ (_ = _)) _ ?_ ?_); (· first | assumption | (with_reducible assumption)); (conv => whnf))
        | (refine hX _ _ _ _ _ _ ?_; (conv => whnf); fail_if_success show False)
        | (rw [t_si]; simp (disch := omega) only [xl_n, xl_m, nI_dec, nI_sb, xl_0, xl_1, tW_i, t_bn0, t_bn1, Classical.not_not, t_lt, nI_add, nI_1, pk_mul, nI_clamp, t_si, nI_eq, nI_leI, nM_ne, nM_ne, xm_u2_ne, xm_u2_at, reduceIte, tK_u, tA_u, Nat.reduceEqDiff]; (conv => whnf))
        | (refine ⟨_, rfl, ?_⟩; (conv => whnf))
        | (refine ⟨_, _, rfl, ?_⟩; (conv => whnf))
        | (refine ⟨_, _, _, rfl, ?_⟩; (conv => whnf))
        | (refine ⟨_, _, _, _, rfl, ?_⟩; (conv => whnf))
        | (refine And.intro (fun c => ?_) (fun c => ?_) <;> (first | (exact absurd c (by decide +kernel)) | (exact absurd c (by assumption)) | (exact False.elim (c (by assumption))) | (conv => whnf)))
        | fail)
      exact hQ M hM
  have := l2 0 (by omega) I none (Or.inl rfl) ⟨fun _ _ => rfl, fun b k q => by omega⟩
  clear l10 l2
  refine ⟨rfl, ?_⟩
  repeat' (first
    | ((with_reducible refine @And.intro (vp_in _ _) _ ?_ ?_); (· (first | with_reducible assumption | ((with_reducible refine t_vin ?_); decide) | ((with_reducible refine vp_in_nI ?_ ?_) <;> first | omega | decide) | (simp (disch := omega) only [xl_n, xl_m, nI_dec, nI_sb, nI_add, pk_mul]; (with_reducible refine vp_in_nI ?_ ?_) <;> first | omega | decide))); (conv => whnf))
    | (refine And.intro (by first | with_reducible assumption | exact (show tL _ = _ from rfl) | decide) ?_; (conv => whnf))
    | ((with_reducible refine @And.intro (_ = _) _ ?_ ?_); (· rfl); (conv => whnf))
    | ((with_reducible refine @And.intro (@LE.le Nat _ _ _) _ ?_ ?_); (· (first | exact Nat.zero_le _ | exact Nat.le_of_ble_eq_true rfl | omega)); (conv => whnf))
    | ((with_reducible refine @And.intro (@LT.lt Nat _ _ _) _ ?_ ?_); (· omega); (conv => whnf))
    | ((with_reducible refine @And.intro (∃ _, _ = _) _ ?_ ?_); (· exact ⟨_, rfl⟩); (conv => whnf))
    | ((with_reducible refine @And.intro (_ ∨ _) _ ?_ ?_); (· (first | exact Or.inl rfl | exact Or.inr rfl | exact t_b01 _ | assumption)); (conv => whnf))
    | ((with_reducible refine @And.intro (¬ (_ = _)) _ ?_ ?_); (· first | assumption | (with_reducible assumption)); (conv => whnf))
    | (refine hX _ _ _ _ _ _ ?_; (conv => whnf); fail_if_success show False)
    | (rw [t_si]; (conv => whnf))
    | (refine ⟨_, rfl, ?_⟩; (conv => whnf))
    | (refine ⟨_, _, rfl, ?_⟩; (conv => whnf))
    | (refine ⟨_, _, _, rfl, ?_⟩; (conv => whnf))
    | (refine ⟨_, _, _, _, rfl, ?_⟩; (conv => whnf))
    | (refine And.intro (fun c => ?_) (fun c => ?_) <;> (first | (exact absurd c (by decide +kernel)) | (conv => whnf)))
    | fail)
  exact this
theorem ct_X11_lays {Iv : xI} (hI : xm_good Iv) : xm_Ct Iv yX11_lays (ws_ yX11_lays cX11_lays 5 none) 1 0 0 S_X11_lays := xm_enter (rt := 2) (init := false) (by decide +kernel) rfl (fun h => by cases h) (Or.inr (Or.inr (Or.inl ⟨rfl, rfl⟩))) (oX11_lays hI) body_X11_lays
theorem cv_X11_lays {Iv : xI} {own : String} {cc : ByteArray} {fr pc idx : Nat} (hI : xm_good Iv) (hdg : decode cc pc = .ok (.invokestatic idx, 3)) (hl : xm_ml own idx yX11_lays) (hfr : 1 < fr) : xm_CallOK Iv own cc fr pc (pc + 3) 3 0 0 S_X11_lays := xm_callS hI (ct_X11_lays hI) hdg hl q1940 q145 q1941 (by decide +kernel) hfr (by decide)
