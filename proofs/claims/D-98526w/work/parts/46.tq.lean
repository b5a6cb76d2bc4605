/-! ===== the reference: images ===== -/
set_option maxRecDepth 100000
/-- all but now, base, gone and images stays -/
def t_sk (I J : tI) : Prop := (∀ b, b ≠ 0 → ¬ t_free b → b ≠ 36 → b ≠ 37 → b < 640 → J b = I b) ∧ ∀ k, k ≠ 0 → ¬ t_scf k → k ≠ 44 → k ≠ 42 → k ≠ 43 → J 0 k = I 0 k
theorem t_sk.same {I J : tI} (h : t_sk I J) : t_same I J := by
  refine ⟨fun b hb => h.1 b (by omega) (t_nf (by omega)) (by omega) (by omega) (by omega), h.2 27 (by omega) (by unfold t_scf; omega) (by omega) (by omega) (by omega), h.2 41 (by omega) (by unfold t_scf; omega) (by omega) (by omega) (by omega), h.2 45 (by omega) (by unfold t_scf; omega) (by omega) (by omega) (by omega)⟩
theorem t_sk.G {I J : tI} (h : t_sk I J) (hg : t_good I) : tG J = g_setN (tG I) fun n => (n.1, tA J 36, tA J 37, J 0 42, t_im J, (fun k => if k < t_im J then tA J (640 + k) else n.1), n.2.2.2.2.2.2) := by
  have f : ∀ k, k ≠ 0 → k < 42 → J 0 k = I 0 k := fun k hk q => h.2 k hk (by unfold t_scf; omega) (by omega) (by omega) (by omega)
  have el : t_l J = t_l I := by unfold t_l; rw [f 41 (by omega) (by omega)]
  have et : t_tp J = t_tp I := by unfold t_tp; rw [f 1 (by omega) (by omega)]
  have a : tA J 38 = tA I 38 := tA_eq fun k _ => by rw [h.1 38 (by omega) (t_nf (by omega)) (by omega) (by omega) (by omega)]
  have b : ∀ r, (r = 9 ∨ r = 10 ∨ (599 < r ∧ r < 640)) → J r = I r := fun r hr => h.1 r (by omega) (t_nf (by omega)) (by omega) (by omega) (by omega)
  have e2 : (fun k i => if k < t_l I ∧ i < 3 then J (600 + k) i else nI 0) = (fun k i => if k < t_l I ∧ i < 3 then I (600 + k) i else nI 0) := by
    funext k i
    by_cases q : k < t_l I ∧ i < 3
    · have := hg.2.2.2.1.2
      rw [if_pos q, if_pos q, b _ (by omega)]
    · rw [if_neg q, if_neg q]
  unfold tG g_setN
  rw [h.same.K hg, h.same.X hg]
  unfold tN
  rw [el, et, a, f 3 (by omega) (by omega), b 9 (by omega), b 10 (by omega), e2]
theorem t_sk.good {I J : tI} (h : t_sk I J) (hg : t_good I) (hi : J 0 43 = nI (t_im J) ∧ t_im J ≤ 3) : t_good J := by
  refine h.same.good hg hi ?_
  have e : J 0 1 = I 0 1 := h.2 1 (by omega) (by unfold t_scf; omega) (by omega) (by omega) (by omega)
  have : t_tp J = t_tp I := by unfold t_tp; rw [e]
  rw [this, e]
  exact hg.2.2.2.2.2.1
def g_imgs (G : gG) (m : Nat) (f : Nat → gT) : gG := g_setN G fun n => (n.1, n.2.1, n.2.2.1, n.2.2.2.1, m, (fun k => if k < m then f k else n.1), n.2.2.2.2.2.2)
def q_image (G : gG) : gR := if gimn G = 3 then g_says G nM else (nI 0, nI (gimn G + 1), g_imgs G (gimn G + 1) fun k => if k = gimn G then gnow G else gim G k)
theorem t_kept {n : Nat} (h : n < 3) : t_row (640 + n) := by
  have : ∀ n, n < 3 → tL (640 + n) = some (100, 107) := by decide +kernel
  exact this n h
abbrev bX11_image_0 : List xE := [(.aload_n 0, 1, 0, 0, 0), (.iconst 0, 2, 0, 0, 0), (.putfield 134, 5, 8, 0, 0), (.aload_n 0, 6, 0, 0, 0), (.getfield 276, 9, 8, 43, 0), (.iconst 3, 10, 0, 0, 0), (.if_icmp .ne 5, 13, 0, 15, 0), (.iconst (-1), 14, 0, 0, 0), (.ireturn, 15, 0, 0, 0)]
abbrev bX11_image_15 : List xE := [(.aload_n 0, 16, 0, 0, 0), (.getfield 91, 19, 8, 36, 1), (.aload_n 0, 20, 0, 0, 0), (.getfield 82, 23, 8, 33, 1), (.aload_n 0, 24, 0, 0, 0), (.getfield 276, 27, 8, 43, 0), (.aaload, 28, 0, 0, 0), (.invokestatic 266, 31, 0, 0, 9), (.aload_n 0, 32, 0, 0, 0), (.dup, 33, 0, 0, 0), (.getfield 276, 36, 8, 43, 0), (.iconst 1, 37, 0, 0, 0), (.iadd, 38, 0, 0, 0), (.putfield 276, 41, 8, 43, 0), (.aload_n 0, 42, 0, 0, 0), (.getfield 276, 45, 8, 43, 0), (.ireturn, 46, 0, 0, 0)]
abbrev kX11_image : List (Nat × List xE) := [(0, bX11_image_0), (15, bX11_image_15)]
abbrev lX11_image : List (Nat × Nat × Nat × xS) := [(2, 0, 0, S_X11_copies)]
theorem oX11_image_0 {Iv : xI} (hI : xm_good Iv)  : xm_okb Iv RX11 cX11_image false 2 lX11_image bX11_image_0 0 := xo_0 dX11_image_0 rfl trivial (xo_0 dX11_image_1 rfl trivial (xo_0 dX11_image_2 rfl (xm_fp_of (xm_fg_of (Or.inl q1955) (by decide) rfl (by decide) rfl rfl (Or.inl rfl) rfl) (by decide) rfl (Or.inl ⟨rfl, rfl⟩) rfl) (xo_0 dX11_image_5 rfl trivial (xo_0 dX11_image_6 rfl (xm_fg_of (Or.inl q1998) (by decide) rfl (by decide) rfl rfl (Or.inl rfl) rfl) (xo_0 dX11_image_9 rfl trivial (xo_0 dX11_image_10 rfl rfl (xo_0 dX11_image_13 rfl trivial (xo_0 dX11_image_14 rfl trivial (xo_n)))))))))
theorem oX11_image_15 {Iv : xI} (hI : xm_good Iv)  : xm_okb Iv RX11 cX11_image false 2 lX11_image bX11_image_15 15 := xo_0 dX11_image_15 rfl trivial (xo_1 dX11_image_16 rfl (xm_fg_of (Or.inl q1991) (by decide) rfl (by decide) rfl rfl (Or.inl rfl) rfl) (xo_0 dX11_image_19 rfl trivial (xo_1 dX11_image_20 rfl (xm_fg_of (Or.inl q1988) (by decide) rfl (by decide) rfl rfl (Or.inl rfl) rfl) (xo_0 dX11_image_23 rfl trivial (xo_0 dX11_image_24 rfl (xm_fg_of (Or.inl q1998) (by decide) rfl (by decide) rfl rfl (Or.inl rfl) rfl) (xo_0 dX11_image_27 rfl trivial (xo_c rfl (cv_X11_copies hI dX11_image_28 (Or.inl q1948) (by decide)) (xo_0 dX11_image_31 rfl trivial (xo_0 dX11_image_32 rfl trivial (xo_0 dX11_image_33 rfl (xm_fg_of (Or.inl q1998) (by decide) rfl (by decide) rfl rfl (Or.inl rfl) rfl) (xo_0 dX11_image_36 rfl trivial (xo_0 dX11_image_37 rfl trivial (xo_0 dX11_image_38 rfl (xm_fp_of (xm_fg_of (Or.inl q1998) (by decide) rfl (by decide) rfl rfl (Or.inl rfl) rfl) (by decide) rfl (Or.inl ⟨rfl, rfl⟩) rfl) (xo_0 dX11_image_41 rfl trivial (xo_0 dX11_image_42 rfl (xm_fg_of (Or.inl q1998) (by decide) rfl (by decide) rfl rfl (Or.inl rfl) rfl) (xo_0 dX11_image_45 rfl trivial (xo_n)))))))))))))))))
theorem oX11_image {Iv : xI} (hI : xm_good Iv)  : ∀ q ∈ kX11_image, xm_okb Iv RX11 cX11_image false 2 lX11_image q.2 q.1 := by
  intro q hq
  simp only [List.mem_cons, List.not_mem_nil, or_false] at hq
  rcases hq with rfl | rfl
  · exact oX11_image_0 hI  
  · exact oX11_image_15 hI  
def S_X11_image : xS := tU fun as I Q => as = [.ref 0] ∧ t_good I ∧ t_P Q (q_image (tG I))
theorem body_X11_image : xm_Body 1 0 0 0 [] lX11_image kX11_image S_X11_image := by
  intro X avs w Q QX hX0 hS
  have hG := xm_go [] hX0
  have hX := xm_go [] hX0
  clear hX0
  obtain ⟨I, rfl, rfl, hg, hQ⟩ := hS
  refine ⟨rfl, ?_⟩
  repeat' (first
    | ((with_reducible refine @And.intro (vp_in _ _) _ ?_ ?_); (· (first | with_reducible assumption | ((with_reducible refine t_vin ?_); decide) | ((with_reducible refine vp_in_nI ?_ ?_) <;> first | omega | decide) | (simp (disch := omega) only [xl_n, xl_m, nI_dec, nI_sb, nI_add, pk_mul]; (with_reducible refine vp_in_nI ?_ ?_) <;> first | omega | decide))); (conv => whnf))
    | (refine And.intro (by first | with_reducible assumption | exact (show tL _ = _ from rfl) | decide) ?_; (conv => whnf))
    | ((with_reducible refine @And.intro (_ = _) _ ?_ ?_); (· rfl); (conv => whnf))
    | ((with_reducible refine @And.intro (@LE.le Nat _ _ _) _ ?_ ?_); (· (first | exact Nat.zero_le _ | exact Nat.le_of_ble_eq_true rfl | omega)); (conv => whnf))
    | ((with_reducible refine @And.intro (@LT.lt Nat _ _ _) _ ?_ ?_); (· omega); (conv => whnf))
    | ((with_reducible refine @And.intro (∃ _, _ = _) _ ?_ ?_); (· exact ⟨_, rfl⟩); (conv => whnf))
    | ((with_reducible refine @And.intro (_ ∨ _) _ ?_ ?_); (· (first | exact Or.inl rfl | exact Or.inr rfl | exact t_b01 _ | assumption)); (conv => whnf))
    | ((with_reducible refine @And.intro (¬ (_ = _)) _ ?_ ?_); (· first | assumption | (with_reducible assumption)); (conv => whnf))
    | (refine hX _ _ _ _ _ _ ?_; (conv => whnf); fail_if_success show False)
    | fail)
  rw [t_si]
  obtain ⟨J, hJ, hg1, hG1, h01⟩ := t_pub hg
  rw [← hJ]
  rw [← hG1] at hQ
  clear hJ hG1 hg I
  have hg := hg1
  have hok := hg.1
  have hl := hg.2.1
  have h8 := hok.2.2.2.1
  have h9 := hok.2.1
  (conv => whnf)
  have hi := hg.2.2.2.2.1
  have en : gimn (tG J) = t_im J := rfl
  rw [q_image, en] at hQ
  repeat' (first
    | ((with_reducible refine @And.intro (vp_in _ _) _ ?_ ?_); (· (first | with_reducible assumption | ((with_reducible refine t_vin ?_); decide) | ((with_reducible refine vp_in_nI ?_ ?_) <;> first | omega | decide) | (simp (disch := omega) only [xl_n, xl_m, nI_dec, nI_sb, nI_add, pk_mul]; (with_reducible refine vp_in_nI ?_ ?_) <;> first | omega | decide))); (conv => whnf))
    | (refine And.intro (by first | with_reducible assumption | exact (show tL _ = _ from rfl) | decide) ?_; (conv => whnf))
    | ((with_reducible refine @And.intro (_ = _) _ ?_ ?_); (· rfl); (conv => whnf))
    | ((with_reducible refine @And.intro (@LE.le Nat _ _ _) _ ?_ ?_); (· (first | exact Nat.zero_le _ | exact Nat.le_of_ble_eq_true rfl | omega)); (conv => whnf))
    | ((with_reducible refine @And.intro (@LT.lt Nat _ _ _) _ ?_ ?_); (· omega); (conv => whnf))
    | ((with_reducible refine @And.intro (∃ _, _ = _) _ ?_ ?_); (· exact ⟨_, rfl⟩); (conv => whnf))
    | ((with_reducible refine @And.intro (_ ∨ _) _ ?_ ?_); (· (first | exact Or.inl rfl | exact Or.inr rfl | exact t_b01 _ | assumption)); (conv => whnf))
    | ((with_reducible refine @And.intro (¬ (_ = _)) _ ?_ ?_); (· first | assumption | (with_reducible assumption)); (conv => whnf))
    | (refine hX _ _ _ _ _ _ ?_; (conv => whnf); fail_if_success show False)
    | (rw [t_si]; (conv => whnf))
    | (refine ⟨_, rfl, ?_⟩; (conv => whnf))
    | (refine ⟨_, _, rfl, ?_⟩; (conv => whnf))
    | (refine ⟨_, _, _, rfl, ?_⟩; (conv => whnf))
    | (refine ⟨_, _, _, _, rfl, ?_⟩; (conv => whnf))
    | fail)
  refine And.intro (fun c => ?_) (fun c => ?_) <;> (conv => whnf)
  · have h3 : t_im J ≠ 3 := fun e => c (by
      show J 0 43 = Int32.ofInt 3
      rw [hi.1, e]
      decide +kernel)
    rw [if_neg h3] at hQ
    have i3 : (tW J).2.1 0 43 = nI (t_im J) := hi.1
    repeat' (first
      | ((with_reducible refine @And.intro (vp_in _ _) _ ?_ ?_); (· (first | with_reducible assumption | ((with_reducible refine t_vin ?_); decide) | ((with_reducible refine vp_in_nI ?_ ?_) <;> first | omega | decide) | (simp (disch := omega) only [xl_n, xl_m, nI_dec, nI_sb, nI_add, pk_mul]; (with_reducible refine vp_in_nI ?_ ?_) <;> first | omega | decide))); (conv => whnf))
      | (refine And.intro (by first | with_reducible assumption | exact (show tL _ = _ from rfl) | decide) ?_; (conv => whnf))
      | ((with_reducible refine @And.intro (_ = _) _ ?_ ?_); (· rfl); (conv => whnf))
      | ((with_reducible refine @And.intro (@LE.le Nat _ _ _) _ ?_ ?_); (· (first | exact Nat.zero_le _ | exact Nat.le_of_ble_eq_true rfl | omega)); (conv => whnf))
      | ((with_reducible refine @And.intro (@LT.lt Nat _ _ _) _ ?_ ?_); (· omega); (conv => whnf))
      | ((with_reducible refine @And.intro (∃ _, _ = _) _ ?_ ?_); (· exact ⟨_, rfl⟩); (conv => whnf))
      | ((with_reducible refine @And.intro (_ ∨ _) _ ?_ ?_); (· (first | exact Or.inl rfl | exact Or.inr rfl | exact t_b01 _ | assumption)); (conv => whnf))
      | ((with_reducible refine @And.intro (¬ (_ = _)) _ ?_ ?_); (· first | assumption | (with_reducible assumption)); (conv => whnf))
      | (refine hX _ _ _ _ _ _ ?_; (conv => whnf); fail_if_success show False)
      | (rw [t_si]; (conv => whnf))
      | (refine ⟨_, rfl, ?_⟩; (conv => whnf))
      | (refine ⟨_, _, rfl, ?_⟩; (conv => whnf))
      | (refine ⟨_, _, _, rfl, ?_⟩; (conv => whnf))
      | (refine ⟨_, _, _, _, rfl, ?_⟩; (conv => whnf))
      | (rw [i3]; (conv => whnf))
      | fail)
    rw [nI_clamp (by omega)]
    refine ⟨t_kept (by omega), show (36 : Nat) ≠ 640 + t_im J by omega, fun L hL hk => ?_⟩
    (conv => whnf)
    have L0 : L 0 = J 0 := hL 0 (by omega)
    have el : L 0 43 = nI (t_im J) := by rw [L0]; exact hi.1
    have ew : L 0 43 + Int32.ofInt 1 = nI (t_im J + 1) := by rw [el, xl_n.2.1, nI_add]
    have hM : t_sk J (xm_u2 L 0 43 (nI (t_im J + 1))) := ⟨fun b b0 _ _ _ hlt => by
      rw [show xm_u2 L 0 43 (nI (t_im J + 1)) b = L b from funext fun j => xm_u2_ne b0 j]
      exact hL b (by omega), fun k _ _ _ _ hk => by rw [xm_u2_at, if_neg hk, L0]⟩
    have e43 : xm_u2 L 0 43 (nI (t_im J + 1)) 0 43 = nI (t_im J + 1) := by rw [xm_u2_at, if_pos rfl]
    have em : t_im (xm_u2 L 0 43 (nI (t_im J + 1))) = t_im J + 1 := by
      show (xm_u2 L 0 43 (nI (t_im J + 1)) 0 43).toNatClampNeg = t_im J + 1
      rw [e43, nI_clamp (by omega)]
    have fin : Q (some (.int (nI (t_im J + 1)))) (tW (xm_u2 L 0 43 (nI (t_im J + 1)))) := by
      refine hQ _ (hM.good hg ⟨by rw [e43, em], by omega⟩) ?_ ?_
      · rw [hM.G hg, em]
        have a : ∀ r, r ≠ 640 + t_im J → r ≠ 0 → tA (xm_u2 L 0 43 (nI (t_im J + 1))) r = tA J r := fun r hr r0 => by
          rw [tA_u r0]
          exact tA_eq fun k _ => by rw [hL r hr]
        have b : tA (xm_u2 L 0 43 (nI (t_im J + 1))) (640 + t_im J) = tA J 36 := by
          rw [tA_u (by omega)]
          exact tA_eq hk
        rw [a 36 (by omega) (by omega), a 37 (by omega) (by omega), xm_u2_at, if_neg (by decide), L0]
        unfold g_imgs g_setN
        have ef : (fun k => if k < t_im J + 1 then tA (xm_u2 L 0 43 (nI (t_im J + 1))) (640 + k) else tA J 38) = (fun k => if k < t_im J + 1 then (if k = t_im J then gnow (tG J) else gim (tG J) k) else tA J 38) := by
          funext k
          by_cases q : k < t_im J + 1
          · rw [if_pos q, if_pos q]
            by_cases q2 : k = t_im J
            · rw [if_pos q2, q2, b]
              rfl
            · rw [if_neg q2, a _ (by omega) (by omega)]
              exact (if_pos (show k < t_im J by omega)).symm
          · rw [if_neg q, if_neg q]
        show (_, _, _, _, _, _, _, _, _) = (_, _, _, _, _, _, _, _, _)
        rw [show (tG J).2.2.1 = tA J 38 from rfl, ef]
        rfl
      · rw [xm_u2_at, if_neg (by decide), L0]
        exact h01
    repeat' (first
      | ((with_reducible refine @And.intro (vp_in _ _) _ ?_ ?_); (· (first | with_reducible assumption | ((with_reducible refine t_vin ?_); decide) | ((with_reducible refine vp_in_nI ?_ ?_) <;> first | omega | decide) | (simp (disch := omega) only [xl_n, xl_m, nI_dec, nI_sb, nI_add, pk_mul]; (with_reducible refine vp_in_nI ?_ ?_) <;> first | omega | decide))); (conv => whnf))
      | (refine And.intro (by first | with_reducible assumption | exact (show tL _ = _ from rfl) | decide) ?_; (conv => whnf))
      | ((with_reducible refine @And.intro (_ = _) _ ?_ ?_); (· rfl); (conv => whnf))
      | ((with_reducible refine @And.intro (@LE.le Nat _ _ _) _ ?_ ?_); (· (first | exact Nat.zero_le _ | exact Nat.le_of_ble_eq_true rfl | omega)); (conv => whnf))
      | ((with_reducible refine @And.intro (@LT.lt Nat _ _ _) _ ?_ ?_); (· omega); (conv => whnf))
      | ((with_reducible refine @And.intro (∃ _, _ = _) _ ?_ ?_); (· exact ⟨_, rfl⟩); (conv => whnf))
      | ((with_reducible refine @And.intro (_ ∨ _) _ ?_ ?_); (· (first | exact Or.inl rfl | exact Or.inr rfl | exact t_b01 _ | assumption)); (conv => whnf))
      | ((with_reducible refine @And.intro (¬ (_ = _)) _ ?_ ?_); (· first | assumption | (with_reducible assumption)); (conv => whnf))
      | (refine hX _ _ _ _ _ _ ?_; (conv => whnf); fail_if_success show False)
      | (rw [t_si]; (conv => whnf))
      | (refine ⟨_, rfl, ?_⟩; (conv => whnf))
      | (refine ⟨_, _, rfl, ?_⟩; (conv => whnf))
      | (refine ⟨_, _, _, rfl, ?_⟩; (conv => whnf))
      | (refine ⟨_, _, _, _, rfl, ?_⟩; (conv => whnf))
      | (refine And.intro (fun c => ?_) (fun c => ?_) <;> (first | (exact absurd c (by decide +kernel)) | (conv => whnf)))
      | fail)
    clear hX hG hQ
    simp (disch := omega) only [xl_n, xl_m, nI_dec, nI_sb, xl_0, xl_1, tW_i, t_bn0, t_bn1, Classical.not_not, t_lt, nI_add, nI_1, pk_mul, nI_clamp, t_si, nI_eq, nI_leI, nM_ne, nM_ne, ew, el, xm_u2_at, reduceIte] at *
    exact fin
  · repeat' (first
      | ((with_reducible refine @And.intro (vp_in _ _) _ ?_ ?_); (· (first | with_reducible assumption | ((with_reducible refine t_vin ?_); decide) | ((with_reducible refine vp_in_nI ?_ ?_) <;> first | omega | decide) | (simp (disch := omega) only [xl_n, xl_m, nI_dec, nI_sb, nI_add, pk_mul]; (with_reducible refine vp_in_nI ?_ ?_) <;> first | omega | decide))); (conv => whnf))
      | (refine And.intro (by first | with_reducible assumption | exact (show tL _ = _ from rfl) | decide) ?_; (conv => whnf))
      | ((with_reducible refine @And.intro (_ = _) _ ?_ ?_); (· rfl); (conv => whnf))
      | ((with_reducible refine @And.intro (@LE.le Nat _ _ _) _ ?_ ?_); (· (first | exact Nat.zero_le _ | exact Nat.le_of_ble_eq_true rfl | omega)); (conv => whnf))
      | ((with_reducible refine @And.intro (@LT.lt Nat _ _ _) _ ?_ ?_); (· omega); (conv => whnf))
      | ((with_reducible refine @And.intro (∃ _, _ = _) _ ?_ ?_); (· exact ⟨_, rfl⟩); (conv => whnf))
      | ((with_reducible refine @And.intro (_ ∨ _) _ ?_ ?_); (· (first | exact Or.inl rfl | exact Or.inr rfl | exact t_b01 _ | assumption)); (conv => whnf))
      | ((with_reducible refine @And.intro (¬ (_ = _)) _ ?_ ?_); (· first | assumption | (with_reducible assumption)); (conv => whnf))
      | (refine hX _ _ _ _ _ _ ?_; (conv => whnf); fail_if_success show False)
      | (rw [t_si]; (conv => whnf))
      | (refine ⟨_, rfl, ?_⟩; (conv => whnf))
      | (refine ⟨_, _, rfl, ?_⟩; (conv => whnf))
      | (refine ⟨_, _, _, rfl, ?_⟩; (conv => whnf))
      | (refine ⟨_, _, _, _, rfl, ?_⟩; (conv => whnf))
      | (refine And.intro (fun c => ?_) (fun c => ?_) <;> (first | (exact absurd c (by decide +kernel)) | (conv => whnf)))
      | fail)
    have h3 : t_im J = 3 := by
      have c' : J 0 43 = Int32.ofInt 3 := Classical.not_not.mp c
      rw [hi.1, xl_n.2.2.2.1, nI_eq (by omega) (by omega)] at c'
      exact c'
    rw [if_pos h3] at hQ
    exact t_ask hQ hg t_sp.rf h01 xl_m
theorem ct_X11_image {Iv : xI} (hI : xm_good Iv) : xm_Ct Iv yX11_image (ws_ yX11_image cX11_image 1 (some .int)) 2 0 0 S_X11_image := xm_enter (rt := 0) (init := false) (by decide +kernel) rfl (fun h => by cases h) (Or.inl ⟨rfl, rfl⟩) (oX11_image hI) body_X11_image
theorem cv_X11_image {Iv : xI} {own : String} {cc : ByteArray} {fr pc idx : Nat} (hI : xm_good Iv) (hdg : decode cc pc = .ok (.invokevirtual idx, 3)) (hl : xm_ml own idx yX11_image) (hfr : 2 < fr) : xm_CallOK Iv own cc fr pc (pc + 3) 1 0 0 (xm_this 8 S_X11_image) := xm_callV 8 hI (ct_X11_image hI) hdg hl q2609 q2610 q145 q2611 rfl rfl (by decide +kernel) hfr (by decide)
def q_restore (G : gG) : gR := if gimn G = 0 then g_says G nM else (nI 0, nI (gimn G - 1), g_set (g_imgs G (gimn G - 1) (gim G)) (gim G (gimn G - 1)))
abbrev bX11_restore_0 : List xE := [(.aload_n 0, 1, 0, 0, 0), (.iconst 0, 2, 0, 0, 0), (.putfield 134, 5, 8, 0, 0), (.aload_n 0, 6, 0, 0, 0), (.getfield 276, 9, 8, 43, 0), (.ifCond .ne 5, 12, 0, 14, 0), (.iconst (-1), 13, 0, 0, 0), (.ireturn, 14, 0, 0, 0)]
abbrev bX11_restore_14 : List xE := [(.aload_n 0, 15, 0, 0, 0), (.dup, 16, 0, 0, 0), (.getfield 276, 19, 8, 43, 0), (.iconst 1, 20, 0, 0, 0), (.isub, 21, 0, 0, 0), (.putfield 276, 24, 8, 43, 0), (.aload_n 0, 25, 0, 0, 0), (.getfield 82, 28, 8, 33, 1), (.aload_n 0, 29, 0, 0, 0), (.getfield 276, 32, 8, 43, 0), (.aaload, 33, 0, 0, 0), (.aload_n 0, 34, 0, 0, 0), (.getfield 91, 37, 8, 36, 1), (.invokestatic 266, 40, 0, 0, 9), (.aload_n 0, 41, 0, 0, 0), (.invokevirtual 279, 44, 0, 1, 9), (.aload_n 0, 45, 0, 0, 0), (.getfield 276, 48, 8, 43, 0), (.ireturn, 49, 0, 0, 0)]
abbrev kX11_restore : List (Nat × List xE) := [(0, bX11_restore_0), (14, bX11_restore_14)]
abbrev lX11_restore : List (Nat × Nat × Nat × xS) := [(2, 0, 0, S_X11_copies), (1, 0, 0, xm_this 8 S_X11_settles)]
theorem oX11_restore_0 {Iv : xI} (hI : xm_good Iv)  : xm_okb Iv RX11 cX11_restore false 3 lX11_restore bX11_restore_0 0 := xo_0 dX11_restore_0 rfl trivial (xo_0 dX11_restore_1 rfl trivial (xo_0 dX11_restore_2 rfl (xm_fp_of (xm_fg_of (Or.inl q1955) (by decide) rfl (by decide) rfl rfl (Or.inl rfl) rfl) (by decide) rfl (Or.inl ⟨rfl, rfl⟩) rfl) (xo_0 dX11_restore_5 rfl trivial (xo_0 dX11_restore_6 rfl (xm_fg_of (Or.inl q1998) (by decide) rfl (by decide) rfl rfl (Or.inl rfl) rfl) (xo_0 dX11_restore_9 rfl rfl (xo_0 dX11_restore_12 rfl trivial (xo_0 dX11_restore_13 rfl trivial (xo_n))))))))
theorem oX11_restore_14 {Iv : xI} (hI : xm_good Iv)  : xm_okb Iv RX11 cX11_restore false 3 lX11_restore bX11_restore_14 14 := xo_0 dX11_restore_14 rfl trivial (xo_0 dX11_restore_15 rfl trivial (xo_0 dX11_restore_16 rfl (xm_fg_of (Or.inl q1998) (by decide) rfl (by decide) rfl rfl (Or.inl rfl) rfl) (xo_0 dX11_restore_19 rfl trivial (xo_0 dX11_restore_20 rfl trivial (xo_0 dX11_restore_21 rfl (xm_fp_of (xm_fg_of (Or.inl q1998) (by decide) rfl (by decide) rfl rfl (Or.inl rfl) rfl) (by decide) rfl (Or.inl ⟨rfl, rfl⟩) rfl) (xo_0 dX11_restore_24 rfl trivial (xo_1 dX11_restore_25 rfl (xm_fg_of (Or.inl q1988) (by decide) rfl (by decide) rfl rfl (Or.inl rfl) rfl) (xo_0 dX11_restore_28 rfl trivial (xo_0 dX11_restore_29 rfl (xm_fg_of (Or.inl q1998) (by decide) rfl (by decide) rfl rfl (Or.inl rfl) rfl) (xo_0 dX11_restore_32 rfl trivial (xo_0 dX11_restore_33 rfl trivial (xo_1 dX11_restore_34 rfl (xm_fg_of (Or.inl q1991) (by decide) rfl (by decide) rfl rfl (Or.inl rfl) rfl) (xo_c rfl (cv_X11_copies hI dX11_restore_37 (Or.inl q1948) (by decide)) (xo_0 dX11_restore_40 rfl trivial (xo_c rfl (cv_X11_settles hI dX11_restore_41 (Or.inl q1951) (by decide)) (xo_0 dX11_restore_44 rfl trivial (xo_0 dX11_restore_45 rfl (xm_fg_of (Or.inl q1998) (by decide) rfl (by decide) rfl rfl (Or.inl rfl) rfl) (xo_0 dX11_restore_48 rfl trivial (xo_n)))))))))))))))))))
theorem oX11_restore {Iv : xI} (hI : xm_good Iv)  : ∀ q ∈ kX11_restore, xm_okb Iv RX11 cX11_restore false 3 lX11_restore q.2 q.1 := by
  intro q hq
  simp only [List.mem_cons, List.not_mem_nil, or_false] at hq
  rcases hq with rfl | rfl
  · exact oX11_restore_0 hI  
  · exact oX11_restore_14 hI  
def S_X11_restore : xS := tU fun as I Q => as = [.ref 0] ∧ t_good I ∧ t_P Q (q_restore (tG I))
theorem body_X11_restore : xm_Body 1 0 0 0 [] lX11_restore kX11_restore S_X11_restore := by
  intro X avs w Q QX hX0 hS
  have hG := xm_go [] hX0
  have hX := xm_go [] hX0
  clear hX0
  obtain ⟨I, rfl, rfl, hg, hQ⟩ := hS
  refine ⟨rfl, ?_⟩
  repeat' (first
    | ((with_reducible refine @And.intro (vp_in _ _) _ ?_ ?_); (· (first | with_reducible assumption | ((with_reducible refine t_vin ?_); decide) | ((with_reducible refine vp_in_nI ?_ ?_) <;> first | omega | decide) | (simp (disch := omega) only [xl_n, xl_m, nI_dec, nI_sb, nI_add, pk_mul]; (with_reducible refine vp_in_nI ?_ ?_) <;> first | omega | decide))); (conv => whnf))
    | (refine And.intro (by first | with_reducible assumption | exact (show tL _ = _ from rfl) | decide) ?_; (conv => whnf))
    | ((with_reducible refine @And.intro (_ = _) _ ?_ ?_); (· rfl); (conv => whnf))
    | ((with_reducible refine @And.intro (@LE.le Nat _ _ _) _ ?_ ?_); (· (first | exact Nat.zero_le _ | exact Nat.le_of_ble_eq_true rfl | omega)); (conv => whnf))
    | ((with_reducible refine @And.intro (@LT.lt Nat _ _ _) _ ?_ ?_); (· omega); (conv => whnf))
    | ((with_reducible refine @And.intro (∃ _, _ = _) _ ?_ ?_); (· exact ⟨_, rfl⟩); (conv => whnf))
    | ((with_reducible refine @And.intro (_ ∨ _) _ ?_ ?_); (· (first | exact Or.inl rfl | exact Or.inr rfl | exact t_b01 _ | assumption)); (conv => whnf))
    | ((with_reducible refine @And.intro (¬ (_ = _)) _ ?_ ?_); (· first | assumption | (with_reducible assumption)); (conv => whnf))
    | (refine hX _ _ _ _ _ _ ?_; (conv => whnf); fail_if_success show False)
    | fail)
  rw [t_si]
  obtain ⟨J, hJ, hg1, hG1, h01⟩ := t_pub hg
  rw [← hJ]
  rw [← hG1] at hQ
  clear hJ hG1 hg I
  have hg := hg1
  have hok := hg.1
  have hl := hg.2.1
  have h8 := hok.2.2.2.1
  have h9 := hok.2.1
  (conv => whnf)
  have hi := hg.2.2.2.2.1
  have en : gimn (tG J) = t_im J := rfl
  rw [q_restore, en] at hQ
  repeat' (first
    | ((with_reducible refine @And.intro (vp_in _ _) _ ?_ ?_); (· (first | with_reducible assumption | ((with_reducible refine t_vin ?_); decide) | ((with_reducible refine vp_in_nI ?_ ?_) <;> first | omega | decide) | (simp (disch := omega) only [xl_n, xl_m, nI_dec, nI_sb, nI_add, pk_mul]; (with_reducible refine vp_in_nI ?_ ?_) <;> first | omega | decide))); (conv => whnf))
    | (refine And.intro (by first | with_reducible assumption | exact (show tL _ = _ from rfl) | decide) ?_; (conv => whnf))
    | ((with_reducible refine @And.intro (_ = _) _ ?_ ?_); (· rfl); (conv => whnf))
    | ((with_reducible refine @And.intro (@LE.le Nat _ _ _) _ ?_ ?_); (· (first | exact Nat.zero_le _ | exact Nat.le_of_ble_eq_true rfl | omega)); (conv => whnf))
    | ((with_reducible refine @And.intro (@LT.lt Nat _ _ _) _ ?_ ?_); (· omega); (conv => whnf))
    | ((with_reducible refine @And.intro (∃ _, _ = _) _ ?_ ?_); (· exact ⟨_, rfl⟩); (conv => whnf))
    | ((with_reducible refine @And.intro (_ ∨ _) _ ?_ ?_); (· (first | exact Or.inl rfl | exact Or.inr rfl | exact t_b01 _ | assumption)); (conv => whnf))
    | ((with_reducible refine @And.intro (¬ (_ = _)) _ ?_ ?_); (· first | assumption | (with_reducible assumption)); (conv => whnf))
    | (refine hX _ _ _ _ _ _ ?_; (conv => whnf); fail_if_success show False)
    | (rw [t_si]; (conv => whnf))
    | (refine ⟨_, rfl, ?_⟩; (conv => whnf))
    | (refine ⟨_, _, rfl, ?_⟩; (conv => whnf))
    | (refine ⟨_, _, _, rfl, ?_⟩; (conv => whnf))
    | (refine ⟨_, _, _, _, rfl, ?_⟩; (conv => whnf))
    | fail)
  refine And.intro (fun c => ?_) (fun c => ?_) <;> (conv => whnf)
  · have h3 : t_im J ≠ 0 := fun e => c (by
      show J 0 43 = 0
      rw [hi.1, e]
      rfl)
    rw [if_neg h3] at hQ
    obtain ⟨n, hn⟩ : ∃ n, t_im J = n + 1 := ⟨t_im J - 1, by omega⟩
    rw [hn, Nat.add_sub_cancel] at hQ
    have i3 : (tW J).2.1 0 43 = nI (n + 1) := by
      show J 0 43 = _
      rw [hi.1, hn]
    have i4 : nI (n + 1) - Int32.ofInt 1 = nI n := by rw [xl_n.2.1, nI_sb]
    repeat' (first
      | ((with_reducible refine @And.intro (vp_in _ _) _ ?_ ?_); (· (first | with_reducible assumption | ((with_reducible refine t_vin ?_); decide) | ((with_reducible refine vp_in_nI ?_ ?_) <;> first | omega | decide) | (simp (disch := omega) only [xl_n, xl_m, nI_dec, nI_sb, nI_add, pk_mul]; (with_reducible refine vp_in_nI ?_ ?_) <;> first | omega | decide))); (conv => whnf))
      | (refine And.intro (by first | with_reducible assumption | exact (show tL _ = _ from rfl) | decide) ?_; (conv => whnf))
      | ((with_reducible refine @And.intro (_ = _) _ ?_ ?_); (· rfl); (conv => whnf))
      | ((with_reducible refine @And.intro (@LE.le Nat _ _ _) _ ?_ ?_); (· (first | exact Nat.zero_le _ | exact Nat.le_of_ble_eq_true rfl | omega)); (conv => whnf))
      | ((with_reducible refine @And.intro (@LT.lt Nat _ _ _) _ ?_ ?_); (· omega); (conv => whnf))
      | ((with_reducible refine @And.intro (∃ _, _ = _) _ ?_ ?_); (· exact ⟨_, rfl⟩); (conv => whnf))
      | ((with_reducible refine @And.intro (_ ∨ _) _ ?_ ?_); (· (first | exact Or.inl rfl | exact Or.inr rfl | exact t_b01 _ | assumption)); (conv => whnf))
      | ((with_reducible refine @And.intro (¬ (_ = _)) _ ?_ ?_); (· first | assumption | (with_reducible assumption)); (conv => whnf))
      | (refine hX _ _ _ _ _ _ ?_; (conv => whnf); fail_if_success show False)
      | (rw [t_si]; simp (disch := omega) only [xl_n, xl_m, nI_dec, nI_sb, xl_0, xl_1, tW_i, t_bn0, t_bn1, Classical.not_not, t_lt, nI_add, nI_1, pk_mul, nI_clamp, t_si, nI_eq, nI_leI, nM_ne, nM_ne, xm_u2_ne, xm_u2_at, reduceIte, tK_u, tA_u, Nat.reduceEqDiff]; (conv => whnf))
      | (refine ⟨_, rfl, ?_⟩; (conv => whnf))
      | (refine ⟨_, _, rfl, ?_⟩; (conv => whnf))
      | (refine ⟨_, _, _, rfl, ?_⟩; (conv => whnf))
      | (refine ⟨_, _, _, _, rfl, ?_⟩; (conv => whnf))
      | fail)
    have i5 : J 0 43 - nI 1 = nI n := by rw [show J 0 43 = nI (n + 1) from i3, nI_sb]
    rw [i5]
    refine ⟨vp_in_nI (by omega) (by decide), ?_⟩
    (conv => whnf)
    repeat' (first
      | ((with_reducible refine @And.intro (vp_in _ _) _ ?_ ?_); (· (first | with_reducible assumption | ((with_reducible refine t_vin ?_); decide) | ((with_reducible refine vp_in_nI ?_ ?_) <;> first | omega | decide) | (simp (disch := omega) only [xl_n, xl_m, nI_dec, nI_sb, nI_add, pk_mul]; (with_reducible refine vp_in_nI ?_ ?_) <;> first | omega | decide))); (conv => whnf))
      | (refine And.intro (by first | with_reducible assumption | exact (show tL _ = _ from rfl) | decide) ?_; (conv => whnf))
      | ((with_reducible refine @And.intro (_ = _) _ ?_ ?_); (· rfl); (conv => whnf))
      | ((with_reducible refine @And.intro (@LE.le Nat _ _ _) _ ?_ ?_); (· (first | exact Nat.zero_le _ | exact Nat.le_of_ble_eq_true rfl | omega)); (conv => whnf))
      | ((with_reducible refine @And.intro (@LT.lt Nat _ _ _) _ ?_ ?_); (· omega); (conv => whnf))
      | ((with_reducible refine @And.intro (∃ _, _ = _) _ ?_ ?_); (· exact ⟨_, rfl⟩); (conv => whnf))
      | ((with_reducible refine @And.intro (_ ∨ _) _ ?_ ?_); (· (first | exact Or.inl rfl | exact Or.inr rfl | exact t_b01 _ | assumption)); (conv => whnf))
      | ((with_reducible refine @And.intro (¬ (_ = _)) _ ?_ ?_); (· first | assumption | (with_reducible assumption)); (conv => whnf))
      | (refine hX _ _ _ _ _ _ ?_; (conv => whnf); fail_if_success show False)
      | (rw [t_si]; (conv => whnf))
      | (refine ⟨_, rfl, ?_⟩; (conv => whnf))
      | (refine ⟨_, _, rfl, ?_⟩; (conv => whnf))
      | (refine ⟨_, _, _, rfl, ?_⟩; (conv => whnf))
      | (refine ⟨_, _, _, _, rfl, ?_⟩; (conv => whnf))
      | fail)
    rw [nI_clamp (by omega)]
    refine ⟨t_kept (by omega), rfl, show 640 + n ≠ (36 : Nat) by omega, fun L hL hk => ?_⟩
    (conv => whnf)
    repeat' (first
      | ((with_reducible refine @And.intro (vp_in _ _) _ ?_ ?_); (· (first | with_reducible assumption | ((with_reducible refine t_vin ?_); decide) | ((with_reducible refine vp_in_nI ?_ ?_) <;> first | omega | decide) | (simp (disch := omega) only [xl_n, xl_m, nI_dec, nI_sb, nI_add, pk_mul]; (with_reducible refine vp_in_nI ?_ ?_) <;> first | omega | decide))); (conv => whnf))
      | (refine And.intro (by first | with_reducible assumption | exact (show tL _ = _ from rfl) | decide) ?_; (conv => whnf))
      | ((with_reducible refine @And.intro (_ = _) _ ?_ ?_); (· rfl); (conv => whnf))
      | ((with_reducible refine @And.intro (@LE.le Nat _ _ _) _ ?_ ?_); (· (first | exact Nat.zero_le _ | exact Nat.le_of_ble_eq_true rfl | omega)); (conv => whnf))
      | ((with_reducible refine @And.intro (@LT.lt Nat _ _ _) _ ?_ ?_); (· omega); (conv => whnf))
      | ((with_reducible refine @And.intro (∃ _, _ = _) _ ?_ ?_); (· exact ⟨_, rfl⟩); (conv => whnf))
      | ((with_reducible refine @And.intro (_ ∨ _) _ ?_ ?_); (· (first | exact Or.inl rfl | exact Or.inr rfl | exact t_b01 _ | assumption)); (conv => whnf))
      | ((with_reducible refine @And.intro (¬ (_ = _)) _ ?_ ?_); (· first | assumption | (with_reducible assumption)); (conv => whnf))
      | (refine hX _ _ _ _ _ _ ?_; (conv => whnf); fail_if_success show False)
      | (rw [t_si]; (conv => whnf))
      | (refine ⟨_, rfl, ?_⟩; (conv => whnf))
      | (refine ⟨_, _, rfl, ?_⟩; (conv => whnf))
      | (refine ⟨_, _, _, rfl, ?_⟩; (conv => whnf))
      | (refine ⟨_, _, _, _, rfl, ?_⟩; (conv => whnf))
      | fail)
    intro M h1 h2 h3 h4
    (conv => whnf)
    repeat' (first
      | ((with_reducible refine @And.intro (vp_in _ _) _ ?_ ?_); (· (first | with_reducible assumption | ((with_reducible refine t_vin ?_); decide) | ((with_reducible refine vp_in_nI ?_ ?_) <;> first | omega | decide) | (simp (disch := omega) only [xl_n, xl_m, nI_dec, nI_sb, nI_add, pk_mul]; (with_reducible refine vp_in_nI ?_ ?_) <;> first | omega | decide))); (conv => whnf))
      | (refine And.intro (by first | with_reducible assumption | exact (show tL _ = _ from rfl) | decide) ?_; (conv => whnf))
      | ((with_reducible refine @And.intro (_ = _) _ ?_ ?_); (· rfl); (conv => whnf))
      | ((with_reducible refine @And.intro (@LE.le Nat _ _ _) _ ?_ ?_); (· (first | exact Nat.zero_le _ | exact Nat.le_of_ble_eq_true rfl | omega)); (conv => whnf))
      | ((with_reducible refine @And.intro (@LT.lt Nat _ _ _) _ ?_ ?_); (· omega); (conv => whnf))
      | ((with_reducible refine @And.intro (∃ _, _ = _) _ ?_ ?_); (· exact ⟨_, rfl⟩); (conv => whnf))
      | ((with_reducible refine @And.intro (_ ∨ _) _ ?_ ?_); (· (first | exact Or.inl rfl | exact Or.inr rfl | exact t_b01 _ | assumption)); (conv => whnf))
      | ((with_reducible refine @And.intro (¬ (_ = _)) _ ?_ ?_); (· first | assumption | (with_reducible assumption)); (conv => whnf))
      | (refine hX _ _ _ _ _ _ ?_; (conv => whnf); fail_if_success show False)
      | (rw [t_si]; (conv => whnf))
      | (refine ⟨_, rfl, ?_⟩; (conv => whnf))
      | (refine ⟨_, _, rfl, ?_⟩; (conv => whnf))
      | (refine ⟨_, _, _, rfl, ?_⟩; (conv => whnf))
      | (refine ⟨_, _, _, _, rfl, ?_⟩; (conv => whnf))
      | fail)
    have L0 : L 0 = xm_u2 J 0 43 (nI n) 0 := hL 0 (by decide)
    have m0 : ∀ k, k ≠ 42 → k ≠ 43 → M 0 k = J 0 k := fun k a b => by rw [h3 k a, L0, xm_u2_at, if_neg b]
    have m43 : M 0 43 = nI n := by rw [h3 43 (by decide), L0, xm_u2_at, if_pos rfl]
    have mb : ∀ b, b ≠ 37 → b ≠ 36 → b ≠ 0 → M b = J b := fun b x y z => by
      rw [h2 b x z, hL b y]
      exact funext fun j => xm_u2_ne z j
    have em : t_im M = n := by
      show (M 0 43).toNatClampNeg = n
      rw [m43, nI_clamp (by omega)]
    have hM : t_sk J M := ⟨fun b b0 _ b36 b37 _ => mb b b37 b36 b0, fun k _ _ _ a b => m0 k a b⟩
    have e36 : tA M 36 = tA J (640 + n) := tA_eq fun k q => by
      rw [h2 36 (by decide) (by decide), hk k q]
      exact xm_u2_ne (by omega) k
    have e37 : tA M 37 = tA J (640 + n) := by
      rw [← e36]
      exact tA_eq fun k q => by rw [h1 k q, h2 36 (by decide) (by decide)]
    have eg : gim (tG J) n = tA J (640 + n) := if_pos (show n < t_im J by omega)
    show Q (some (.int (M 0 43))) (tW M)
    rw [m43]
    refine hQ M (hM.good hg ⟨by rw [m43, em], by omega⟩) ?_ ?_
    · rw [hM.G hg, em, e36, e37, h4, eg]
      have ef : (fun k => if k < n then tA M (640 + k) else tA J 38) = (fun k => if k < n then gim (tG J) k else tA J 38) := by
        funext k
        by_cases q : k < n
        · rw [if_pos q, if_pos q, tA_eq fun j _ => by rw [mb (640 + k) (by omega) (by omega) (by omega)]]
          exact (if_pos (show k < t_im J by omega)).symm
        · rw [if_neg q, if_neg q]
      show ((tG J).1, (tG J).2.1, (tA J 38, tA J (640 + n), tA J (640 + n), nI 0, n, (fun k => if k < n then tA M (640 + k) else tA J 38), (tG J).2.2.2.2.2.2.2.2)) = _
      rw [ef]
      rfl
    · rw [m0 0 (by decide) (by decide)]
      exact h01
  · repeat' (first
      | ((with_reducible refine @And.intro (vp_in _ _) _ ?_ ?_); (· (first | with_reducible assumption | ((with_reducible refine t_vin ?_); decide) | ((with_reducible refine vp_in_nI ?_ ?_) <;> first | omega | decide) | (simp (disch := omega) only [xl_n, xl_m, nI_dec, nI_sb, nI_add, pk_mul]; (with_reducible refine vp_in_nI ?_ ?_) <;> first | omega | decide))); (conv => whnf))
      | (refine And.intro (by first | with_reducible assumption | exact (show tL _ = _ from rfl) | decide) ?_; (conv => whnf))
      | ((with_reducible refine @And.intro (_ = _) _ ?_ ?_); (· rfl); (conv => whnf))
      | ((with_reducible refine @And.intro (@LE.le Nat _ _ _) _ ?_ ?_); (· (first | exact Nat.zero_le _ | exact Nat.le_of_ble_eq_true rfl | omega)); (conv => whnf))
      | ((with_reducible refine @And.intro (@LT.lt Nat _ _ _) _ ?_ ?_); (· omega); (conv => whnf))
      | ((with_reducible refine @And.intro (∃ _, _ = _) _ ?_ ?_); (· exact ⟨_, rfl⟩); (conv => whnf))
      | ((with_reducible refine @And.intro (_ ∨ _) _ ?_ ?_); (· (first | exact Or.inl rfl | exact Or.inr rfl | exact t_b01 _ | assumption)); (conv => whnf))
      | ((with_reducible refine @And.intro (¬ (_ = _)) _ ?_ ?_); (· first | assumption | (with_reducible assumption)); (conv => whnf))
      | (refine hX _ _ _ _ _ _ ?_; (conv => whnf); fail_if_success show False)
      | (rw [t_si]; (conv => whnf))
      | (refine ⟨_, rfl, ?_⟩; (conv => whnf))
      | (refine ⟨_, _, rfl, ?_⟩; (conv => whnf))
      | (refine ⟨_, _, _, rfl, ?_⟩; (conv => whnf))
      | (refine ⟨_, _, _, _, rfl, ?_⟩; (conv => whnf))
      | (refine And.intro (fun c => ?_) (fun c => ?_) <;> (first | (exact absurd c (by decide +kernel)) | (conv => whnf)))
      | fail)
    have h3 : t_im J = 0 := by
      have c' : J 0 43 = 0 := Classical.not_not.mp c
      rw [hi.1, ← nI_0, nI_eq (by omega) (by omega)] at c'
      exact c'
    rw [if_pos h3] at hQ
    exact t_ask hQ hg t_sp.rf h01 xl_m
theorem ct_X11_restore {Iv : xI} (hI : xm_good Iv) : xm_Ct Iv yX11_restore (ws_ yX11_restore cX11_restore 1 (some .int)) 3 0 0 S_X11_restore := xm_enter (rt := 0) (init := false) (by decide +kernel) rfl (fun h => by cases h) (Or.inl ⟨rfl, rfl⟩) (oX11_restore hI) body_X11_restore
theorem cv_X11_restore {Iv : xI} {own : String} {cc : ByteArray} {fr pc idx : Nat} (hI : xm_good Iv) (hdg : decode cc pc = .ok (.invokevirtual idx, 3)) (hl : xm_ml own idx yX11_restore) (hfr : 3 < fr) : xm_CallOK Iv own cc fr pc (pc + 3) 1 0 0 (xm_this 8 S_X11_restore) := xm_callV 8 hI (ct_X11_restore hI) hdg hl q2613 q2614 q145 q2615 rfl rfl (by decide +kernel) hfr (by decide)
