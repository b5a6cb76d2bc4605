/-! ===== the reference: nothing told ===== -/
set_option maxRecDepth 100000
/-- of the places S, M has what T says; elsewhere than at D it is as I -/
def t_z (D : Nat → Prop) (I T : tI) (S : Nat → Nat → Prop) (M : tI) : Prop := (∀ b, ¬ D b → M b = I b) ∧ ∀ b k, S b k → M b k = T b k
theorem t_z.w {D : Nat → Prop} {I T M : tI} {S S' : Nat → Nat → Prop} {b k : Nat} {v : Int32} (h : t_z D I T S M) (hD : D b) (hv : v = T b k) (hs : ∀ b' k', S' b' k' → S b' k' ∨ (b' = b ∧ k' = k)) : t_z D I T S' (xm_u2 M b k v) := by
  refine ⟨fun b' h' => funext fun j => ?_, fun b' k' h' => ?_⟩
  · rw [xm_u2_ne (fun e => h' (by rw [e]; exact hD))]
    exact congrFun (h.1 b' h') j
  · by_cases q : b' = b ∧ k' = k
    · rw [q.1, q.2, xm_u2_at, if_pos rfl]
      exact hv
    · rw [show xm_u2 M b k v b' k' = M b' k' from if_neg q]
      rcases hs b' k' h' with p | p
      · exact h.2 b' k' p
      · exact absurd p q
theorem t_z.s {D : Nat → Prop} {I T M : tI} {S S' : Nat → Nat → Prop} (h : t_z D I T S M) (hs : ∀ b k, S' b k → S b k) : t_z D I T S' M := ⟨h.1, fun b k q => h.2 b k (hs b k q)⟩
def t_tnD (b : Nat) : Prop := b = 11 ∨ b = 13 ∨ b = 15 ∨ b = 17 ∨ (160 ≤ b ∧ b < 169)
def f_0 : tI := fun b k => if b = 11 ∧ k = 3 then nI 1 else nI 0
theorem f_0_z {b k : Nat} (h : b ≠ 11 ∨ k ≠ 3) : nI 0 = f_0 b k := (if_neg (by omega)).symm
def t_tnS (h : Nat) (b k : Nat) : Prop := (b = 11 ∧ k < 4) ∨ (b = 17 ∧ k < h) ∨ (160 ≤ b ∧ b < 160 + h ∧ k < 9)
abbrev bX11_tellsNothing_0 : List xE := [(.iconst 0, 1, 0, 0, 0), (.istore_n 1, 2, 0, 0, 0)]
abbrev bX11_tellsNothing_2 : List xE := [(.iload_n 1, 3, 0, 0, 0), (.iconst 3, 4, 0, 0, 0), (.if_icmp .ge 16, 7, 0, 20, 0), (.aload_n 0, 8, 0, 0, 0), (.getfield 20, 11, 8, 11, 1), (.iload_n 1, 12, 0, 0, 0), (.iconst 0, 13, 0, 0, 0), (.iastore, 14, 0, 0, 0), (.iinc 1 1, 17, 0, 0, 0), (.goto (-15), 20, 0, 2, 0)]
abbrev bX11_tellsNothing_20 : List xE := [(.aload_n 0, 21, 0, 0, 0), (.getfield 20, 24, 8, 11, 1), (.iconst 3, 25, 0, 0, 0), (.iconst 1, 26, 0, 0, 0), (.iastore, 27, 0, 0, 0), (.iconst 0, 28, 0, 0, 0), (.istore_n 1, 29, 0, 0, 0)]
abbrev bX11_tellsNothing_29 : List xE := [(.iload_n 1, 30, 0, 0, 0), (.bipush 9, 32, 0, 0, 0), (.if_icmp .ge 39, 35, 0, 71, 0), (.aload_n 0, 36, 0, 0, 0), (.getfield 38, 39, 8, 17, 1), (.iload_n 1, 40, 0, 0, 0), (.iconst 0, 41, 0, 0, 0), (.iastore, 42, 0, 0, 0), (.iconst 0, 43, 0, 0, 0), (.istore_n 2, 44, 0, 0, 0)]
abbrev bX11_tellsNothing_44 : List xE := [(.iload_n 2, 45, 0, 0, 0), (.bipush 9, 47, 0, 0, 0), (.if_icmp .ge 18, 50, 0, 65, 0), (.aload_n 0, 51, 0, 0, 0), (.getfield 64, 54, 8, 25, 1), (.iload_n 1, 55, 0, 0, 0), (.aaload, 56, 0, 0, 0), (.iload_n 2, 57, 0, 0, 0), (.iconst 0, 58, 0, 0, 0), (.iastore, 59, 0, 0, 0), (.iinc 2 1, 62, 0, 0, 0), (.goto (-18), 65, 0, 44, 0)]
abbrev bX11_tellsNothing_65 : List xE := [(.iinc 1 1, 68, 0, 0, 0), (.goto (-39), 71, 0, 29, 0)]
abbrev bX11_tellsNothing_71 : List xE := [(.iconst 0, 72, 0, 0, 0), (.istore_n 1, 73, 0, 0, 0)]
abbrev bX11_tellsNothing_73 : List xE := [(.iload_n 1, 74, 0, 0, 0), (.bipush 8, 76, 0, 0, 0), (.if_icmp .ge 23, 79, 0, 99, 0), (.aload_n 0, 80, 0, 0, 0), (.getfield 26, 83, 8, 13, 1), (.iload_n 1, 84, 0, 0, 0), (.iconst 0, 85, 0, 0, 0), (.iastore, 86, 0, 0, 0), (.aload_n 0, 87, 0, 0, 0), (.getfield 32, 90, 8, 15, 1), (.iload_n 1, 91, 0, 0, 0), (.iconst 0, 92, 0, 0, 0), (.iastore, 93, 0, 0, 0), (.iinc 1 1, 96, 0, 0, 0), (.goto (-23), 99, 0, 73, 0)]
abbrev bX11_tellsNothing_99 : List xE := [(.return_, 100, 0, 0, 0)]
abbrev kX11_tellsNothing : List (Nat × List xE) := [(0, bX11_tellsNothing_0), (2, bX11_tellsNothing_2), (20, bX11_tellsNothing_20), (29, bX11_tellsNothing_29), (44, bX11_tellsNothing_44), (65, bX11_tellsNothing_65), (71, bX11_tellsNothing_71), (73, bX11_tellsNothing_73), (99, bX11_tellsNothing_99)]
abbrev lX11_tellsNothing : List (Nat × Nat × Nat × xS) := []
theorem oX11_tellsNothing_0 {Iv : xI} (hI : xm_good Iv)  : xm_okb Iv RX11 cX11_tellsNothing false 1 lX11_tellsNothing bX11_tellsNothing_0 0 := xo_0 dX11_tellsNothing_0 rfl trivial (xo_0 dX11_tellsNothing_1 rfl trivial (xo_n))
theorem oX11_tellsNothing_2 {Iv : xI} (hI : xm_good Iv)  : xm_okb Iv RX11 cX11_tellsNothing false 1 lX11_tellsNothing bX11_tellsNothing_2 2 := xo_0 dX11_tellsNothing_2 rfl trivial (xo_0 dX11_tellsNothing_3 rfl trivial (xo_0 dX11_tellsNothing_4 rfl rfl (xo_0 dX11_tellsNothing_7 rfl trivial (xo_1 dX11_tellsNothing_8 rfl (xm_fg_of (Or.inl q1966) (by decide) rfl (by decide) rfl rfl (Or.inl rfl) rfl) (xo_0 dX11_tellsNothing_11 rfl trivial (xo_0 dX11_tellsNothing_12 rfl trivial (xo_0 dX11_tellsNothing_13 rfl trivial (xo_0 dX11_tellsNothing_14 rfl trivial (xo_0 dX11_tellsNothing_17 rfl rfl (xo_n))))))))))
theorem oX11_tellsNothing_20 {Iv : xI} (hI : xm_good Iv)  : xm_okb Iv RX11 cX11_tellsNothing false 1 lX11_tellsNothing bX11_tellsNothing_20 20 := xo_0 dX11_tellsNothing_20 rfl trivial (xo_1 dX11_tellsNothing_21 rfl (xm_fg_of (Or.inl q1966) (by decide) rfl (by decide) rfl rfl (Or.inl rfl) rfl) (xo_0 dX11_tellsNothing_24 rfl trivial (xo_0 dX11_tellsNothing_25 rfl trivial (xo_0 dX11_tellsNothing_26 rfl trivial (xo_0 dX11_tellsNothing_27 rfl trivial (xo_0 dX11_tellsNothing_28 rfl trivial (xo_n)))))))
theorem oX11_tellsNothing_29 {Iv : xI} (hI : xm_good Iv)  : xm_okb Iv RX11 cX11_tellsNothing false 1 lX11_tellsNothing bX11_tellsNothing_29 29 := xo_0 dX11_tellsNothing_29 rfl trivial (xo_0 dX11_tellsNothing_30 rfl (xo_bipush (by decide +kernel)) (xo_0 dX11_tellsNothing_32 rfl rfl (xo_0 dX11_tellsNothing_35 rfl trivial (xo_1 dX11_tellsNothing_36 rfl (xm_fg_of (Or.inl q1972) (by decide) rfl (by decide) rfl rfl (Or.inl rfl) rfl) (xo_0 dX11_tellsNothing_39 rfl trivial (xo_0 dX11_tellsNothing_40 rfl trivial (xo_0 dX11_tellsNothing_41 rfl trivial (xo_0 dX11_tellsNothing_42 rfl trivial (xo_0 dX11_tellsNothing_43 rfl trivial (xo_n))))))))))
theorem oX11_tellsNothing_44 {Iv : xI} (hI : xm_good Iv)  : xm_okb Iv RX11 cX11_tellsNothing false 1 lX11_tellsNothing bX11_tellsNothing_44 44 := xo_0 dX11_tellsNothing_44 rfl trivial (xo_0 dX11_tellsNothing_45 rfl (xo_bipush (by decide +kernel)) (xo_0 dX11_tellsNothing_47 rfl rfl (xo_0 dX11_tellsNothing_50 rfl trivial (xo_1 dX11_tellsNothing_51 rfl (xm_fg_of (Or.inl q1980) (by decide) rfl (by decide) rfl rfl (Or.inl rfl) rfl) (xo_0 dX11_tellsNothing_54 rfl trivial (xo_0 dX11_tellsNothing_55 rfl trivial (xo_0 dX11_tellsNothing_56 rfl trivial (xo_0 dX11_tellsNothing_57 rfl trivial (xo_0 dX11_tellsNothing_58 rfl trivial (xo_0 dX11_tellsNothing_59 rfl trivial (xo_0 dX11_tellsNothing_62 rfl rfl (xo_n))))))))))))
theorem oX11_tellsNothing_65 {Iv : xI} (hI : xm_good Iv)  : xm_okb Iv RX11 cX11_tellsNothing false 1 lX11_tellsNothing bX11_tellsNothing_65 65 := xo_0 dX11_tellsNothing_65 rfl trivial (xo_0 dX11_tellsNothing_68 rfl rfl (xo_n))
theorem oX11_tellsNothing_71 {Iv : xI} (hI : xm_good Iv)  : xm_okb Iv RX11 cX11_tellsNothing false 1 lX11_tellsNothing bX11_tellsNothing_71 71 := xo_0 dX11_tellsNothing_71 rfl trivial (xo_0 dX11_tellsNothing_72 rfl trivial (xo_n))
theorem oX11_tellsNothing_73 {Iv : xI} (hI : xm_good Iv)  : xm_okb Iv RX11 cX11_tellsNothing false 1 lX11_tellsNothing bX11_tellsNothing_73 73 := xo_0 dX11_tellsNothing_73 rfl trivial (xo_0 dX11_tellsNothing_74 rfl (xo_bipush (by decide +kernel)) (xo_0 dX11_tellsNothing_76 rfl rfl (xo_0 dX11_tellsNothing_79 rfl trivial (xo_1 dX11_tellsNothing_80 rfl (xm_fg_of (Or.inl q1968) (by decide) rfl (by decide) rfl rfl (Or.inl rfl) rfl) (xo_0 dX11_tellsNothing_83 rfl trivial (xo_0 dX11_tellsNothing_84 rfl trivial (xo_0 dX11_tellsNothing_85 rfl trivial (xo_0 dX11_tellsNothing_86 rfl trivial (xo_1 dX11_tellsNothing_87 rfl (xm_fg_of (Or.inl q1970) (by decide) rfl (by decide) rfl rfl (Or.inl rfl) rfl) (xo_0 dX11_tellsNothing_90 rfl trivial (xo_0 dX11_tellsNothing_91 rfl trivial (xo_0 dX11_tellsNothing_92 rfl trivial (xo_0 dX11_tellsNothing_93 rfl trivial (xo_0 dX11_tellsNothing_96 rfl rfl (xo_n)))))))))))))))
theorem oX11_tellsNothing_99 {Iv : xI} (hI : xm_good Iv)  : xm_okb Iv RX11 cX11_tellsNothing false 1 lX11_tellsNothing bX11_tellsNothing_99 99 := xo_0 dX11_tellsNothing_99 rfl trivial (xo_n)
theorem oX11_tellsNothing {Iv : xI} (hI : xm_good Iv)  : ∀ q ∈ kX11_tellsNothing, xm_okb Iv RX11 cX11_tellsNothing false 1 lX11_tellsNothing q.2 q.1 := by
  intro q hq
  simp only [List.mem_cons, List.not_mem_nil, or_false] at hq
  rcases hq with rfl | rfl | rfl | rfl | rfl | rfl | rfl | rfl | rfl
  · exact oX11_tellsNothing_0 hI  
  · exact oX11_tellsNothing_2 hI  
  · exact oX11_tellsNothing_20 hI  
  · exact oX11_tellsNothing_29 hI  
  · exact oX11_tellsNothing_44 hI  
  · exact oX11_tellsNothing_65 hI  
  · exact oX11_tellsNothing_71 hI  
  · exact oX11_tellsNothing_73 hI  
  · exact oX11_tellsNothing_99 hI  
def S_X11_tellsNothing : xS := tU fun as I Q => as = [.ref 0] ∧ ∀ J, t_z t_tnD I f_0 (fun b k => t_tnS 9 b k ∨ ((b = 13 ∨ b = 15) ∧ k < 8)) J → Q none J
theorem body_X11_tellsNothing : xm_Body 3 2 0 0 [] lX11_tellsNothing kX11_tellsNothing S_X11_tellsNothing := by
  intro X avs w Q QX hX0 hS
  have hG := xm_go [] hX0
  have hX := xm_go [2, 29, 44, 73] hX0
  clear hX0
  obtain ⟨I, rfl, rfl, hQ⟩ := hS
  have e9 : Int32.ofInt 9 = nI 9 := by decide +kernel
  have l73 : ∀ p, p ≤ 8 → ∀ M o, (o = none ∨ ∃ z, o = some (.int z)) → t_z t_tnD I f_0 (fun b k => t_tnS 9 b k ∨ ((b = 13 ∨ b = 15) ∧ k < p)) M → X 73 [some (.ref 0), some (.int (nI p)), o] [] (tW M) 0 0 := by
    refine t_for fun p h1 ih M o ho hM => ?_
    rcases Nat.lt_or_ge p 8 with hp | hp
    · have := ih (p + 1) (by omega) (by omega) (xm_u2 (xm_u2 M 13 p (nI 0)) 15 p (nI 0)) o ho ((hM.w (b := 13) (k := p) (S' := fun b k => t_tnS 9 b k ∨ ((b = 13 ∨ b = 15) ∧ k < p) ∨ (b = 13 ∧ k = p)) (by unfold t_tnD; omega) (f_0_z (by omega)) (fun b k => by unfold t_tnS; omega)).w (b := 15) (k := p) (by unfold t_tnD; omega) (f_0_z (by omega)) (fun b k => by unfold t_tnS; omega))
      have hlt : ¬ Int32.ofInt 8 ≤ nI p := by rw [xl_n.2.2.2.2.2.2.2.2.1]; exact nI_ge hp (by decide)
      clear ih
      refine hG _ _ _ _ _ _ ?_
      (conv => whnf)
      repeat' (first
        | ((with_reducible refine @And.intro (vp_in _ _) _ ?_ ?_); (· (first | with_reducible assumption | ((with_reducible refine t_vin ?_); decide) | ((with_reducible refine vp_in_nI ?_ ?_) <;> first | omega | decide) | (simp (disch := omega) only [xl_n, xl_m, nI_dec, nI_sb, nI_add, pk_mul]; (with_reducible refine vp_in_nI ?_ ?_) <;> first | omega | decide))); (conv => whnf))
        | (refine And.intro (by first | with_reducible assumption | exact (show tL _ = _ from rfl) | decide) ?_; (conv => whnf))
        | ((with_reducible refine @And.intro (_ = _) _ ?_ ?_); (· rfl); (conv => whnf))
        | ((with_reducible refine @And.intro (@LE.le Nat _ _ _) _ ?_ ?_); (· (first | exact Nat.zero_le _ | exact Nat.le_of_ble_eq_true rfl | omega)); (conv => whnf))
        | ((with_reducible refine @And.intro (@LT.lt Nat _ _ _) _ ?_ ?_); (· omega); (conv => whnf))
        | ((with_reducible refine @And.intro (∃ _, _ = _) _ ?_ ?_); (· exact ⟨_, rfl⟩); (conv => whnf))
        | ((with_reducible refine @And.intro (_ ∨ _) _ ?_ ?_); (· (first | exact Or.inl rfl | exact Or.inr rfl | exact t_b01 _ | assumption)); (conv => whnf))
        | ((with_reducible refine @And.intro (¬ (_ = _)) _ ?_ ?_); (· first | assumption | (with_reducible assumption)); (conv => whnf))
        | (refine hX _ _ _ _ _ _ ?_; (conv => whnf); fail_if_success show False)
        | (rw [t_si]; simp (disch := omega) only [xl_n, xl_m, nI_dec, nI_sb, xl_0, xl_1, tW_i, t_bn0, t_bn1, Classical.not_not, t_lt, nI_add, nI_1, pk_mul, nI_clamp, t_si, nI_eq, nI_leI, nM_ne, nM_ne, xm_u2_ne, xm_u2_at, reduceIte, tK_u, tA_u, Nat.reduceEqDiff]; (conv => whnf))
        | (refine ⟨_, rfl, ?_⟩; (conv => whnf))
        | (refine ⟨_, _, rfl, ?_⟩; (conv => whnf))
        | (refine ⟨_, _, _, rfl, ?_⟩; (conv => whnf))
        | (refine ⟨_, _, _, _, rfl, ?_⟩; (conv => whnf))
        | (refine And.intro (fun c => ?_) (fun c => ?_) <;> (first | (exact absurd c (by decide +kernel)) | (exact absurd c (by assumption)) | (exact False.elim (c (by assumption))) | (conv => whnf)))
        | fail)
      clear hX hG
      simp (disch := omega) only [xl_n, xl_m, nI_dec, nI_sb, xl_0, xl_1, tW_i, t_bn0, t_bn1, Classical.not_not, t_lt, nI_add, nI_1, pk_mul, nI_clamp, t_si, nI_eq, nI_leI, nM_ne, nM_ne, xm_set] at *
      exact this
    · have e8 : p = 8 := by omega
      have hlt : Int32.ofInt 8 ≤ nI p := by rw [xl_n.2.2.2.2.2.2.2.2.1]; exact nI_le hp (by omega)
      subst e8
      clear ih
      refine hG _ _ _ _ _ _ ?_
      (conv => whnf)
      repeat' (first
        | ((with_reducible refine @And.intro (vp_in _ _) _ ?_ ?_); (· (first | with_reducible assumption | ((with_reducible refine t_vin ?_); decide) | ((with_reducible refine vp_in_nI ?_ ?_) <;> first | omega | decide) | (simp (disch := omega) only [xl_n, xl_m, nI_dec, nI_sb, nI_add, pk_mul]; (with_reducible refine vp_in_nI ?_ ?_) <;> first | omega | decide))); (conv => whnf))
        | (refine And.intro (by first | with_reducible assumption | exact (show tL _ = _ from rfl) | decide) ?_; (conv => whnf))
        | ((with_reducible refine @And.intro (_ = _) _ ?_ ?_); (· rfl); (conv => whnf))
        | ((with_reducible refine @And.intro (@LE.le Nat _ _ _) _ ?_ ?_); (· (first | exact Nat.zero_le _ | exact Nat.le_of_ble_eq_true rfl | omega)); (conv => whnf))
        | ((with_reducible refine @And.intro (@LT.lt Nat _ _ _) _ ?_ ?_); (· omega); (conv => whnf))
        | ((with_reducible refine @And.intro (∃ _, _ = _) _ ?_ ?_); (· exact ⟨_, rfl⟩); (conv => whnf))
        | ((with_reducible refine @And.intro (_ ∨ _) _ ?_ ?_); (· (first | exact Or.inl rfl | exact Or.inr rfl | exact t_b01 _ | assumption)); (conv => whnf))
        | ((with_reducible refine @And.intro (¬ (_ = _)) _ ?_ ?_); (· first | assumption | (with_reducible assumption)); (conv => whnf))
        | (refine hX _ _ _ _ _ _ ?_; (conv => whnf); fail_if_success show False)
        | (rw [t_si]; simp (disch := omega) only [xl_n, xl_m, nI_dec, nI_sb, xl_0, xl_1, tW_i, t_bn0, t_bn1, Classical.not_not, t_lt, nI_add, nI_1, pk_mul, nI_clamp, t_si, nI_eq, nI_leI, nM_ne, nM_ne, xm_u2_ne, xm_u2_at, reduceIte, tK_u, tA_u, Nat.reduceEqDiff]; (conv => whnf))
        | (refine ⟨_, rfl, ?_⟩; (conv => whnf))
        | (refine ⟨_, _, rfl, ?_⟩; (conv => whnf))
        | (refine ⟨_, _, _, rfl, ?_⟩; (conv => whnf))
        | (refine ⟨_, _, _, _, rfl, ?_⟩; (conv => whnf))
        | (refine And.intro (fun c => ?_) (fun c => ?_) <;> (first | (exact absurd c (by decide +kernel)) | (exact absurd c (by assumption)) | (exact False.elim (c (by assumption))) | (conv => whnf)))
        | fail)
      exact hQ M hM
  have l44 : ∀ h, h < 9 → (∀ M o, (o = none ∨ ∃ z, o = some (.int z)) → t_z t_tnD I f_0 (t_tnS (h + 1)) M → X 29 [some (.ref 0), some (.int (nI (h + 1))), o] [] (tW M) 0 0) → ∀ g, g ≤ 9 → ∀ M, t_z t_tnD I f_0 (fun b k => t_tnS h b k ∨ (b = 17 ∧ k = h) ∨ (b = 160 + h ∧ k < g)) M → X 44 [some (.ref 0), some (.int (nI h)), some (.int (nI g))] [] (tW M) 0 0 := by
    intro h hh hn
    refine t_for fun g h1 ih M hM => ?_
    rcases Nat.lt_or_ge g 9 with hg | hg
    · have := ih (g + 1) (by omega) (by omega) (xm_u2 M (160 + h) g (nI 0)) (hM.w (b := 160 + h) (k := g) (by unfold t_tnD; omega) (f_0_z (by omega)) (fun b k => by unfold t_tnS; omega))
      have hlt : ¬ Int32.ofInt 9 ≤ nI g := by rw [e9]; exact nI_ge hg (by decide)
      clear ih hn
      refine hG _ _ _ _ _ _ ?_
      (conv => whnf)
      repeat' (first
        | ((with_reducible refine @And.intro (vp_in _ _) _ ?_ ?_); (· (first | with_reducible assumption | ((with_reducible refine t_vin ?_); decide) | ((with_reducible refine vp_in_nI ?_ ?_) <;> first | omega | decide) | (simp (disch := omega) only [xl_n, xl_m, nI_dec, nI_sb, nI_add, pk_mul]; (with_reducible refine vp_in_nI ?_ ?_) <;> first | omega | decide))); (conv => whnf))
        | (refine And.intro (by first | with_reducible assumption | exact (show tL _ = _ from rfl) | decide) ?_; (conv => whnf))
        | ((with_reducible refine @And.intro (_ = _) _ ?_ ?_); (· rfl); (conv => whnf))
        | ((with_reducible refine @And.intro (@LE.le Nat _ _ _) _ ?_ ?_); (· (first | exact Nat.zero_le _ | exact Nat.le_of_ble_eq_true rfl | omega)); (conv => whnf))
        | ((with_reducible refine @And.intro (@LT.lt Nat _ _ _) _ ?_ ?_); (· omega); (conv => whnf))
        | ((with_reducible refine @And.intro (∃ _, _ = _) _ ?_ ?_); (· exact ⟨_, rfl⟩); (conv => whnf))
        | ((with_reducible refine @And.intro (_ ∨ _) _ ?_ ?_); (· (first | exact Or.inl rfl | exact Or.inr rfl | exact t_b01 _ | assumption)); (conv => whnf))
        | ((with_reducible refine @And.intro (¬ (_ = _)) _ ?_ ?_); (· first | assumption | (with_reducible assumption)); (conv => whnf))
        | (refine hX _ _ _ _ _ _ ?_; (conv => whnf); fail_if_success show False)
        | (rw [t_si]; simp (disch := omega) only [xl_n, xl_m, nI_dec, nI_sb, xl_0, xl_1, tW_i, t_bn0, t_bn1, Classical.not_not, t_lt, nI_add, nI_1, pk_mul, nI_clamp, t_si, nI_eq, nI_leI, nM_ne, nM_ne, xm_u2_ne, xm_u2_at, reduceIte, tK_u, tA_u, Nat.reduceEqDiff]; (conv => whnf))
        | (refine ⟨_, rfl, ?_⟩; (conv => whnf))
        | (refine ⟨_, _, rfl, ?_⟩; (conv => whnf))
        | (refine ⟨_, _, _, rfl, ?_⟩; (conv => whnf))
        | (refine ⟨_, _, _, _, rfl, ?_⟩; (conv => whnf))
        | (rw [t_l160 (by first | with_reducible assumption | omega | exact vp_lt (by assumption) | (rw [nI_clamp (by omega)]; omega))]; (conv => whnf))
        | (refine And.intro (fun c => ?_) (fun c => ?_) <;> (first | (exact absurd c (by decide +kernel)) | (exact absurd c (by assumption)) | (exact False.elim (c (by assumption))) | (conv => whnf)))
        | fail)
      clear hX hG
      simp (disch := omega) only [xl_n, xl_m, nI_dec, nI_sb, xl_0, xl_1, tW_i, t_bn0, t_bn1, Classical.not_not, t_lt, nI_add, nI_1, pk_mul, nI_clamp, t_si, nI_eq, nI_leI, nM_ne, nM_ne, xm_set] at *
      exact this
    · have e9' : g = 9 := by omega
      subst e9'
      have hlt : Int32.ofInt 9 ≤ nI 9 := by decide +kernel
      have := hn M (some (.int (nI 9))) (Or.inr ⟨_, rfl⟩) (hM.s fun b k => by unfold t_tnS; omega)
      clear ih hn
      refine hG _ _ _ _ _ _ ?_
      (conv => whnf)
      repeat' (first
        | ((with_reducible refine @And.intro (vp_in _ _) _ ?_ ?_); (· (first | with_reducible assumption | ((with_reducible refine t_vin ?_); decide) | ((with_reducible refine vp_in_nI ?_ ?_) <;> first | omega | decide) | (simp (disch := omega) only [xl_n, xl_m, nI_dec, nI_sb, nI_add, pk_mul]; (with_reducible refine vp_in_nI ?_ ?_) <;> first | omega | decide))); (conv => whnf))
        | (refine And.intro (by first | with_reducible assumption | exact (show tL _ = _ from rfl) | decide) ?_; (conv => whnf))
        | ((with_reducible refine @And.intro (_ = _) _ ?_ ?_); (· rfl); (conv => whnf))
        | ((with_reducible refine @And.intro (@LE.le Nat _ _ _) _ ?_ ?_); (· (first | exact Nat.zero_le _ | exact Nat.le_of_ble_eq_true rfl | omega)); (conv => whnf))
        | ((with_reducible refine @And.intro (@LT.lt Nat _ _ _) _ ?_ ?_); (· omega); (conv => whnf))
        | ((with_reducible refine @And.intro (∃ _, _ = _) _ ?_ ?_); (· exact ⟨_, rfl⟩); (conv => whnf))
        | ((with_reducible refine @And.intro (_ ∨ _) _ ?_ ?_); (· (first | exact Or.inl rfl | exact Or.inr rfl | exact t_b01 _ | assumption)); (conv => whnf))
        | ((with_reducible refine @And.intro (¬ (_ = _)) _ ?_ ?_); (· first | assumption | (with_reducible assumption)); (conv => whnf))
        | (refine hX _ _ _ _ _ _ ?_; (conv => whnf); fail_if_success show False)
        | (rw [t_si]; simp (disch := omega) only [xl_n, xl_m, nI_dec, nI_sb, xl_0, xl_1, tW_i, t_bn0, t_bn1, Classical.not_not, t_lt, nI_add, nI_1, pk_mul, nI_clamp, t_si, nI_eq, nI_leI, nM_ne, nM_ne, xm_u2_ne, xm_u2_at, reduceIte, tK_u, tA_u, Nat.reduceEqDiff]; (conv => whnf))
        | (refine ⟨_, rfl, ?_⟩; (conv => whnf))
        | (refine ⟨_, _, rfl, ?_⟩; (conv => whnf))
        | (refine ⟨_, _, _, rfl, ?_⟩; (conv => whnf))
        | (refine ⟨_, _, _, _, rfl, ?_⟩; (conv => whnf))
        | (refine And.intro (fun c => ?_) (fun c => ?_) <;> (first | (exact absurd c (by decide +kernel)) | (exact absurd c (by assumption)) | (exact False.elim (c (by assumption))) | (conv => whnf)))
        | fail)
      clear hX hG
      simp (disch := omega) only [xl_n, xl_m, nI_dec, nI_sb, xl_0, xl_1, tW_i, t_bn0, t_bn1, Classical.not_not, t_lt, nI_add, nI_1, pk_mul, nI_clamp, t_si, nI_eq, nI_leI, nM_ne, nM_ne, xm_set] at *
      exact this
  have l29 : ∀ h, h ≤ 9 → ∀ M o, (o = none ∨ ∃ z, o = some (.int z)) → t_z t_tnD I f_0 (t_tnS h) M → X 29 [some (.ref 0), some (.int (nI h)), o] [] (tW M) 0 0 := by
    refine t_for fun h h1 ih M o ho hM => ?_
    rcases Nat.lt_or_ge h 9 with hh | hh
    · have := l44 h hh (ih (h + 1) (by omega) (by omega)) 0 (by omega) (xm_u2 M 17 h (nI 0)) (hM.w (b := 17) (k := h) (by unfold t_tnD; omega) (f_0_z (by omega)) (fun b k => by unfold t_tnS; omega))
      have hlt : ¬ Int32.ofInt 9 ≤ nI h := by rw [e9]; exact nI_ge hh (by decide)
      clear ih l44 l73
      refine hG _ _ _ _ _ _ ?_
      (conv => whnf)
      repeat' (first
        | ((with_reducible refine @And.intro (vp_in _ _) _ ?_ ?_); (· (first | with_reducible assumption | ((with_reducible refine t_vin ?_); decide) | ((with_reducible refine vp_in_nI ?_ ?_) <;> first | omega | decide) | (simp (disch := omega) only [xl_n, xl_m, nI_dec, nI_sb, nI_add, pk_mul]; (with_reducible refine vp_in_nI ?_ ?_) <;> first | omega | decide))); (conv => whnf))
        | (refine And.intro (by first | with_reducible assumption | exact (show tL _ = _ from rfl) | decide) ?_; (conv => whnf))
        | ((with_reducible refine @And.intro (_ = _) _ ?_ ?_); (· rfl); (conv => whnf))
        | ((with_reducible refine @And.intro (@LE.le Nat _ _ _) _ ?_ ?_); (· (first | exact Nat.zero_le _ | exact Nat.le_of_ble_eq_true rfl | omega)); (conv => whnf))
        | ((with_reducible refine @And.intro (@LT.lt Nat _ _ _) _ ?_ ?_); (· omega); (conv => whnf))
        | ((with_reducible refine @And.intro (∃ _, _ = _) _ ?_ ?_); (· exact ⟨_, rfl⟩); (conv => whnf))
        | ((with_reducible refine @And.intro (_ ∨ _) _ ?_ ?_); (· (first | exact Or.inl rfl | exact Or.inr rfl | exact t_b01 _ | assumption)); (conv => whnf))
        | ((with_reducible refine @And.intro (¬ (_ = _)) _ ?_ ?_); (· first | assumption | (with_reducible assumption)); (conv => whnf))
        | (refine hX _ _ _ _ _ _ ?_; (conv => whnf); fail_if_success show False)
        | (rw [t_si]; simp (disch := omega) only [xl_n, xl_m, nI_dec, nI_sb, xl_0, xl_1, tW_i, t_bn0, t_bn1, Classical.not_not, t_lt, nI_add, nI_1, pk_mul, nI_clamp, t_si, nI_eq, nI_leI, nM_ne, nM_ne, xm_u2_ne, xm_u2_at, reduceIte, tK_u, tA_u, Nat.reduceEqDiff]; (conv => whnf))
        | (refine ⟨_, rfl, ?_⟩; (conv => whnf))
        | (refine ⟨_, _, rfl, ?_⟩; (conv => whnf))
        | (refine ⟨_, _, _, rfl, ?_⟩; (conv => whnf))
        | (refine ⟨_, _, _, _, rfl, ?_⟩; (conv => whnf))
        | (refine And.intro (fun c => ?_) (fun c => ?_) <;> (first | (exact absurd c (by decide +kernel)) | (exact absurd c (by assumption)) | (exact False.elim (c (by assumption))) | (conv => whnf)))
        | fail)
      clear hX hG
      simp (disch := omega) only [xl_n, xl_m, nI_dec, nI_sb, xl_0, xl_1, tW_i, t_bn0, t_bn1, Classical.not_not, t_lt, nI_add, nI_1, pk_mul, nI_clamp, t_si, nI_eq, nI_leI, nM_ne, nM_ne, xm_set] at *
      exact this
    · have e9' : h = 9 := by omega
      subst e9'
      have hlt : Int32.ofInt 9 ≤ nI 9 := by decide +kernel
      have := l73 0 (by omega) M o ho (hM.s fun b k => by unfold t_tnS; omega)
      clear ih l44 l73
      refine hG _ _ _ _ _ _ ?_
      (conv => whnf)
      repeat' (first
        | ((with_reducible refine @And.intro (vp_in _ _) _ ?_ ?_); (· (first | with_reducible assumption | ((with_reducible refine t_vin ?_); decide) | ((with_reducible refine vp_in_nI ?_ ?_) <;> first | omega | decide) | (simp (disch := omega) only [xl_n, xl_m, nI_dec, nI_sb, nI_add, pk_mul]; (with_reducible refine vp_in_nI ?_ ?_) <;> first | omega | decide))); (conv => whnf))
        | (refine And.intro (by first | with_reducible assumption | exact (show tL _ = _ from rfl) | decide) ?_; (conv => whnf))
        | ((with_reducible refine @And.intro (_ = _) _ ?_ ?_); (· rfl); (conv => whnf))
        | ((with_reducible refine @And.intro (@LE.le Nat _ _ _) _ ?_ ?_); (· (first | exact Nat.zero_le _ | exact Nat.le_of_ble_eq_true rfl | omega)); (conv => whnf))
        | ((with_reducible refine @And.intro (@LT.lt Nat _ _ _) _ ?_ ?_); (· omega); (conv => whnf))
        | ((with_reducible refine @And.intro (∃ _, _ = _) _ ?_ ?_); (· exact ⟨_, rfl⟩); (conv => whnf))
        | ((with_reducible refine @And.intro (_ ∨ _) _ ?_ ?_); (· (first | exact Or.inl rfl | exact Or.inr rfl | exact t_b01 _ | assumption)); (conv => whnf))
        | ((with_reducible refine @And.intro (¬ (_ = _)) _ ?_ ?_); (· first | assumption | (with_reducible assumption)); (conv => whnf))
        | (refine hX _ _ _ _ _ _ ?_; (conv => whnf); fail_if_success show False)
        | (rw [t_si]; simp (disch := omega) only [xl_n, xl_m, nI_dec, nI_sb, xl_0, xl_1, tW_i, t_bn0, t_bn1, Classical.not_not, t_lt, nI_add, nI_1, pk_mul, nI_clamp, t_si, nI_eq, nI_leI, nM_ne, nM_ne, xm_u2_ne, xm_u2_at, reduceIte, tK_u, tA_u, Nat.reduceEqDiff]; (conv => whnf))
        | (refine ⟨_, rfl, ?_⟩; (conv => whnf))
        | (refine ⟨_, _, rfl, ?_⟩; (conv => whnf))
        | (refine ⟨_, _, _, rfl, ?_⟩; (conv => whnf))
        | (refine ⟨_, _, _, _, rfl, ?_⟩; (conv => whnf))
        | (refine And.intro (fun c => ?_) (fun c => ?_) <;> (first | (exact absurd c (by decide +kernel)) | (exact absurd c (by assumption)) | (exact False.elim (c (by assumption))) | (conv => whnf)))
        | fail)
      clear hX hG
      simp (disch := omega) only [xl_n, xl_m, nI_dec, nI_sb, xl_0, xl_1, tW_i, t_bn0, t_bn1, Classical.not_not, t_lt, nI_add, nI_1, pk_mul, nI_clamp, t_si, nI_eq, nI_leI, nM_ne, nM_ne, xm_set] at *
      exact this
  have l2 : ∀ k, k ≤ 3 → ∀ M, t_z t_tnD I f_0 (fun b j => b = 11 ∧ j < k) M → X 2 [some (.ref 0), some (.int (nI k)), none] [] (tW M) 0 0 := by
    refine t_for fun k h1 ih M hM => ?_
    rcases Nat.lt_or_ge k 3 with hk | hk
    · have := ih (k + 1) (by omega) (by omega) (xm_u2 M 11 k (nI 0)) (hM.w (b := 11) (k := k) (by unfold t_tnD; omega) (f_0_z (by omega)) (fun b k => by omega))
      have hlt : ¬ Int32.ofInt 3 ≤ nI k := by rw [xl_n.2.2.2.1]; exact nI_ge hk (by decide)
      clear ih l44 l73 l29
      refine hG _ _ _ _ _ _ ?_
      (conv => whnf)
      repeat' (first
        | ((with_reducible refine @And.intro (vp_in _ _) _ ?_ ?_); (· (first | with_reducible assumption | ((with_reducible refine t_vin ?_); decide) | ((with_reducible refine vp_in_nI ?_ ?_) <;> first | omega | decide) | (simp (disch := omega) only [xl_n, xl_m, nI_dec, nI_sb, nI_add, pk_mul]; (with_reducible refine vp_in_nI ?_ ?_) <;> first | omega | decide))); (conv => whnf))
        | (refine And.intro (by first | with_reducible assumption | exact (show tL _ = _ from rfl) | decide) ?_; (conv => whnf))
        | ((with_reducible refine @And.intro (_ = _) _ ?_ ?_); (· rfl); (conv => whnf))
        | ((with_reducible refine @And.intro (@LE.le Nat _ _ _) _ ?_ ?_); (· (first | exact Nat.zero_le _ | exact Nat.le_of_ble_eq_true rfl | omega)); (conv => whnf))
        | ((with_reducible refine @And.intro (@LT.lt Nat _ _ _) _ ?_ ?_); (· omega); (conv => whnf))
        | ((with_reducible refine @And.intro (∃ _, _ = _) _ ?_ ?_); (· exact ⟨_, rfl⟩); (conv => whnf))
        | ((with_reducible refine @And.intro (_ ∨ _) _ ?_ ?_); (· (first | exact Or.inl rfl | exact Or.inr rfl | exact t_b01 _ | assumption)); (conv => whnf))
        | ((with_reducible refine @And.intro (¬ (_ = _)) _ ?_ ?_); (· first | assumption | (with_reducible assumption)); (conv => whnf))
        | (refine hX _ _ _ _ _ _ ?_; (conv => whnf); fail_if_success show False)
        | (rw [t_si]; simp (disch := omega) only [xl_n, xl_m, nI_dec, nI_sb, xl_0, xl_1, tW_i, t_bn0, t_bn1, Classical.not_not, t_lt, nI_add, nI_1, pk_mul, nI_clamp, t_si, nI_eq, nI_leI, nM_ne, nM_ne, xm_u2_ne, xm_u2_at, reduceIte, tK_u, tA_u, Nat.reduceEqDiff]; (conv => whnf))
        | (refine ⟨_, rfl, ?_⟩; (conv => whnf))
        | (refine ⟨_, _, rfl, ?_⟩; (conv => whnf))
        | (refine ⟨_, _, _, rfl, ?_⟩; (conv => whnf))
        | (refine ⟨_, _, _, _, rfl, ?_⟩; (conv => whnf))
        | (refine And.intro (fun c => ?_) (fun c => ?_) <;> (first | (exact absurd c (by decide +kernel)) | (exact absurd c (by assumption)) | (exact False.elim (c (by assumption))) | (conv => whnf)))
        | fail)
      clear hX hG
      simp (disch := omega) only [xl_n, xl_m, nI_dec, nI_sb, xl_0, xl_1, tW_i, t_bn0, t_bn1, Classical.not_not, t_lt, nI_add, nI_1, pk_mul, nI_clamp, t_si, nI_eq, nI_leI, nM_ne, nM_ne, xm_set] at *
      exact this
    · have e3' : k = 3 := by omega
      subst e3'
      have hlt : Int32.ofInt 3 ≤ nI 3 := by decide +kernel
      have := l29 0 (by omega) (xm_u2 M 11 3 (nI 1)) none (Or.inl rfl) (hM.w (b := 11) (k := 3) (by unfold t_tnD; omega) rfl (fun b k => by unfold t_tnS; omega))
      clear ih l44 l73 l29
      refine hG _ _ _ _ _ _ ?_
      (conv => whnf)
      repeat' (first
        | ((with_reducible refine @And.intro (vp_in _ _) _ ?_ ?_); (· (first | with_reducible assumption | ((with_reducible refine t_vin ?_); decide) | ((with_reducible refine vp_in_nI ?_ ?_) <;> first | omega | decide) | (simp (disch := omega) only [xl_n, xl_m, nI_dec, nI_sb, nI_add, pk_mul]; (with_reducible refine vp_in_nI ?_ ?_) <;> first | omega | decide))); (conv => whnf))
        | (refine And.intro (by first | with_reducible assumption | exact (show tL _ = _ from rfl) | decide) ?_; (conv => whnf))
        | ((with_reducible refine @And.intro (_ = _) _ ?_ ?_); (· rfl); (conv => whnf))
        | ((with_reducible refine @And.intro (@LE.le Nat _ _ _) _ ?_ ?_); (· (first | exact Nat.zero_le _ | exact Nat.le_of_ble_eq_true rfl | omega)); (conv => whnf))
        | ((with_reducible refine @And.intro (@LT.lt Nat _ _ _) _ ?_ ?_); (· omega); (conv => whnf))
        | ((with_reducible refine @And.intro (∃ _, _ = _) _ ?_ ?_); (· exact ⟨_, rfl⟩); (conv => whnf))
        | ((with_reducible refine @And.intro (_ ∨ _) _ ?_ ?_); (· (first | exact Or.inl rfl | exact Or.inr rfl | exact t_b01 _ | assumption)); (conv => whnf))
        | ((with_reducible refine @And.intro (¬ (_ = _)) _ ?_ ?_); (· first | assumption | (with_reducible assumption)); (conv => whnf))
        | (refine hX _ _ _ _ _ _ ?_; (conv => whnf); fail_if_success show False)
        | (rw [t_si]; simp (disch := omega) only [xl_n, xl_m, nI_dec, nI_sb, xl_0, xl_1, tW_i, t_bn0, t_bn1, Classical.not_not, t_lt, nI_add, nI_1, pk_mul, nI_clamp, t_si, nI_eq, nI_leI, nM_ne, nM_ne, xm_u2_ne, xm_u2_at, reduceIte, tK_u, tA_u, Nat.reduceEqDiff]; (conv => whnf))
        | (refine ⟨_, rfl, ?_⟩; (conv => whnf))
        | (refine ⟨_, _, rfl, ?_⟩; (conv => whnf))
        | (refine ⟨_, _, _, rfl, ?_⟩; (conv => whnf))
        | (refine ⟨_, _, _, _, rfl, ?_⟩; (conv => whnf))
        | (refine And.intro (fun c => ?_) (fun c => ?_) <;> (first | (exact absurd c (by decide +kernel)) | (exact absurd c (by assumption)) | (exact False.elim (c (by assumption))) | (conv => whnf)))
        | fail)
      clear hX hG
      simp (disch := omega) only [xl_n, xl_m, nI_dec, nI_sb, xl_0, xl_1, tW_i, t_bn0, t_bn1, Classical.not_not, t_lt, nI_add, nI_1, pk_mul, nI_clamp, t_si, nI_eq, nI_leI, nM_ne, nM_ne, xm_set] at *
      exact this
  have := l2 0 (by omega) I ⟨fun _ _ => rfl, fun b k q => by omega⟩
  clear l44 l73 l29 l2
  refine ⟨rfl, ?_⟩
  repeat' (first
    | ((with_reducible refine @And.intro (vp_in _ _) _ ?_ ?_); (· (first | with_reducible assumption | ((with_reducible refine t_vin ?_); decide) | ((with_reducible refine vp_in_nI ?_ ?_) <;> first | omega | decide) | (simp (disch := omega) only [xl_n, xl_m, nI_dec, nI_sb, nI_add, pk_mul]; (with_reducible refine vp_in_nI ?_ ?_) <;> first | omega | decide))); (conv => whnf))
    | (refine And.intro (by first | with_reducible assumption | exact (show tL _ = _ from rfl) | decide) ?_; (conv => whnf))
    | ((with_reducible refine @And.intro (_ = _) _ ?_ ?_); (· rfl); (conv => whnf))
    | ((with_reducible refine @And.intro (@LE.le Nat _ _ _) _ ?_ ?_); (· (first | exact Nat.zero_le _ | exact Nat.le_of_ble_eq_true rfl | omega)); (conv => whnf))
    | ((with_reducible refine @And.intro (@LT.lt Nat _ _ _) _ ?_ ?_); (· omega); (conv => whnf))
    | ((with_reducible refine @And.intro (∃ _, _ = _) _ ?_ ?_); (· exact ⟨_, rfl⟩); (conv => whnf))
    | ((with_reducible refine @And.intro (_ ∨ _) _ ?_ ?_); (· (first | exact Or.inl rfl | exact Or.inr rfl | exact t_b01 _ | assumption)); (conv => whnf))
    | ((with_reducible refine @And.intro (¬ (_ = _)) _ ?_ ?_); (· first | assumption | (with_reducible assumption)); (conv => whnf))
    | (refine hX _ _ _ _ _ _ ?_; (conv => whnf); fail_if_success show False)
    | (rw [t_si]; (conv => whnf))
    | (refine ⟨_, rfl, ?_⟩; (conv => whnf))
    | (refine ⟨_, _, rfl, ?_⟩; (conv => whnf))
    | (refine ⟨_, _, _, rfl, ?_⟩; (conv => whnf))
    | (refine ⟨_, _, _, _, rfl, ?_⟩; (conv => whnf))
    | (refine And.intro (fun c => ?_) (fun c => ?_) <;> (first | (exact absurd c (by decide +kernel)) | (conv => whnf)))
    | fail)
  exact this
theorem ct_X11_tellsNothing {Iv : xI} (hI : xm_good Iv) : xm_Ct Iv yX11_tellsNothing (ws_ yX11_tellsNothing cX11_tellsNothing 3 none) 1 0 0 S_X11_tellsNothing := xm_enter (rt := 2) (init := false) (by decide +kernel) rfl (fun h => by cases h) (Or.inr (Or.inr (Or.inl ⟨rfl, rfl⟩))) (oX11_tellsNothing hI) body_X11_tellsNothing
theorem cv_X11_tellsNothing {Iv : xI} {own : String} {cc : ByteArray} {fr pc idx : Nat} (hI : xm_good Iv) (hdg : decode cc pc = .ok (.invokevirtual idx, 3)) (hl : xm_ml own idx yX11_tellsNothing) (hfr : 1 < fr) : xm_CallOK Iv own cc fr pc (pc + 3) 1 0 0 (xm_this 8 S_X11_tellsNothing) := xm_callV 8 hI (ct_X11_tellsNothing hI) hdg hl q1933 qs50 q145 q1934 rfl rfl (by decide +kernel) hfr (by decide)
