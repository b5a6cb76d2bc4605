/-! ===== the reference's questions: whom a puppet chooses ===== -/
set_option maxRecDepth 100000
theorem t_pub {I : tI} (hg : t_good I) : ∃ J, J = xm_u2 I 0 0 (Int32.ofInt 0) ∧ t_good J ∧ tG J = tG I ∧ J 0 0 = nI 0 := ⟨_, rfl, t_sp.u0.good hg, t_sp.u0.G hg, by rw [xm_u2_at, if_pos rfl, xl_n.1]⟩
theorem t_ref' {Q : Option Value → tI → Prop} {I : tI} {c : Bool} {what x : Int32} {r : Nat} {y : gR} (h : t_P Q (g_ck (tG I) c what r y)) (hg : t_good I) (h0 : I 0 0 = nI 0) (hc : c = false) (hr : r < 2) (hx : x = nI 0) {u : tI} (hu : u = xm_u2 (xm_u2 I 0 0 what) 10 r (I 10 r + nI 1)) : Q (some (.int x)) u := by
  refine t_ref h hg hc hr hx (hu.trans ?_)
  have : xm_u2 I 0 0 (nI 0) = I := by
    funext a k
    rw [xm_u2]
    split
    · rename_i e
      rw [e.1, e.2, h0]
    · rfl
  rw [this]
theorem t_pc {I : tI} (hg : t_good I) (a : Int32) : (∃ p, p < t_p I ∧ a = nI p ∧ t_in a (nI 0) (I 12 1 - nI 1) = true ∧ g_isP (tG I) a = true) ∨ (t_in a (nI 0) (I 12 1 - nI 1) = false ∧ g_isP (tG I) a = false) := by
  obtain ⟨-, -, e, h8, -⟩ := hg.1
  have : t_in a (nI 0) (I 12 1 - nI 1) = g_isP (tG I) a := by rw [e]; rfl
  rw [this]
  cases h : g_isP (tG I) a with
  | false => exact Or.inr ⟨rfl, rfl⟩
  | true =>
    obtain ⟨k, hk, q⟩ := t_in_of (n := t_p I) (by omega) h
    exact Or.inl ⟨k, hk, q, rfl, rfl⟩
theorem t_hc {I : tI} (hg : t_good I) (a : Int32) : (∃ p, p < t_h I ∧ a = nI p ∧ t_in a (nI 0) (I 12 0 - nI 1) = true ∧ g_isH (tG I) a = true) ∨ (t_in a (nI 0) (I 12 0 - nI 1) = false ∧ g_isH (tG I) a = false) := by
  obtain ⟨e, h9, -⟩ := hg.1
  have : t_in a (nI 0) (I 12 0 - nI 1) = g_isH (tG I) a := by rw [e]; rfl
  rw [this]
  cases h : g_isH (tG I) a with
  | false => exact Or.inr ⟨rfl, rfl⟩
  | true =>
    obtain ⟨k, hk, q⟩ := t_in_of (n := t_h I) (by omega) h
    exact Or.inl ⟨k, hk, q, rfl, rfl⟩
theorem t_ac {I : tI} (hg : t_good I) (a : Int32) : (∃ p, p < t_a I ∧ a = nI p ∧ t_in a (nI 0) (I 12 2 - nI 1) = true ∧ g_isA (tG I) a = true) ∨ (t_in a (nI 0) (I 12 2 - nI 1) = false ∧ g_isA (tG I) a = false) := by
  obtain ⟨-, -, -, -, e, h9⟩ := hg.1
  have : t_in a (nI 0) (I 12 2 - nI 1) = g_isA (tG I) a := by rw [e]; rfl
  rw [this]
  cases h : g_isA (tG I) a with
  | false => exact Or.inr ⟨rfl, rfl⟩
  | true =>
    obtain ⟨k, hk, q⟩ := t_in_of (n := t_a I) (by omega) h
    exact Or.inl ⟨k, hk, q, rfl, rfl⟩
theorem t_rc (v : Int32) (lo hi : Nat) {L H : Int32} (hL : L = nI lo) (hH : H = nI hi) (h1 : lo < 2 ^ 31) (h2 : hi < 2 ^ 31) : (∃ k, lo ≤ k ∧ k ≤ hi ∧ v = nI k ∧ t_in v L H = true ∧ t_in v (nI lo) (nI hi) = true) ∨ (t_in v L H = false ∧ t_in v (nI lo) (nI hi) = false) := by
  rw [hL, hH]
  cases h : t_in v (nI lo) (nI hi) with
  | false => exact Or.inr ⟨rfl, rfl⟩
  | true =>
    unfold t_in at h
    simp at h
    obtain ⟨h0, h3⟩ := h
    obtain ⟨k, hk, rfl⟩ := nI_of (x := v) (fun q => absurd (Int32.le_trans (nI_pos' h1) h0) (Int32.not_le.mpr q))
    rw [nI_leI h1 hk] at h0
    rw [nI_leI hk h2] at h3
    exact Or.inl ⟨k, h0, h3, rfl, rfl, rfl⟩
def q_score (G : gG) (a b : Int32) : gR := g_ck G (g_isP G a && g_isH G b) (nI 1) 0 (g_says G (g_score (gGK G) (gnow G) a.toNatClampNeg b.toNatClampNeg))
abbrev bX11_score_0 : List xE := [(.aload_n 0, 1, 0, 0, 0), (.iconst 0, 2, 0, 0, 0), (.putfield 134, 5, 8, 0, 0), (.aload_n 0, 6, 0, 0, 0), (.aload_n 0, 7, 0, 0, 0), (.iload_n 1, 8, 0, 0, 0), (.invokevirtual 338, 11, 0, 0, 9), (.ifCond .eq 11, 14, 0, 22, 0), (.aload_n 0, 15, 0, 0, 0), (.iload_n 2, 16, 0, 0, 0), (.invokevirtual 331, 19, 0, 1, 9), (.ifCond .ne 7, 22, 0, 26, 0)]
abbrev bX11_score_22 : List xE := [(.iconst 1, 23, 0, 0, 0), (.goto 4, 26, 0, 27, 0)]
abbrev bX11_score_26 : List xE := [(.iconst 0, 27, 0, 0, 0)]
abbrev bX11_score_27 : List xE := [(.iconst 1, 28, 0, 0, 0), (.iconst 0, 29, 0, 0, 0), (.invokevirtual 249, 32, 0, 2, 9), (.ifCond .eq 5, 35, 0, 37, 0), (.iconst 0, 36, 0, 0, 0), (.ireturn, 37, 0, 0, 0)]
abbrev bX11_score_37 : List xE := [(.aload_n 0, 38, 0, 0, 0), (.aload_n 0, 39, 0, 0, 0), (.getfield 91, 42, 8, 36, 1), (.iload_n 1, 43, 0, 0, 0), (.iload_n 2, 44, 0, 0, 0), (.invokevirtual 357, 47, 0, 3, 9), (.ireturn, 48, 0, 0, 0)]
abbrev kX11_score : List (Nat × List xE) := [(0, bX11_score_0), (22, bX11_score_22), (26, bX11_score_26), (27, bX11_score_27), (37, bX11_score_37)]
abbrev lX11_score : List (Nat × Nat × Nat × xS) := [(2, 0, 0, xm_this 8 S_X11_isPuppet), (2, 0, 0, xm_this 8 S_X11_isHand), (4, 0, 0, xm_this 8 S_X11_bad), (4, 0, 0, xm_this 8 S_X11_scoreOf)]
theorem oX11_score_0 {Iv : xI} (hI : xm_good Iv)  : xm_okb Iv RX11 cX11_score false 5 lX11_score bX11_score_0 0 := xo_0 dX11_score_0 rfl trivial (xo_0 dX11_score_1 rfl trivial (xo_0 dX11_score_2 rfl (xm_fp_of (xm_fg_of (Or.inl q1955) (by decide) rfl (by decide) rfl rfl (Or.inl rfl) rfl) (by decide) rfl (Or.inl ⟨rfl, rfl⟩) rfl) (xo_0 dX11_score_5 rfl trivial (xo_0 dX11_score_6 rfl trivial (xo_0 dX11_score_7 rfl trivial (xo_c rfl (cv_X11_isPuppet hI dX11_score_8 (Or.inl q2319) (by decide)) (xo_0 dX11_score_11 rfl rfl (xo_0 dX11_score_14 rfl trivial (xo_0 dX11_score_15 rfl trivial (xo_c rfl (cv_X11_isHand hI dX11_score_16 (Or.inl q2304) (by decide)) (xo_0 dX11_score_19 rfl rfl (xo_n))))))))))))
theorem oX11_score_22 {Iv : xI} (hI : xm_good Iv)  : xm_okb Iv RX11 cX11_score false 5 lX11_score bX11_score_22 22 := xo_0 dX11_score_22 rfl trivial (xo_0 dX11_score_23 rfl rfl (xo_n))
theorem oX11_score_26 {Iv : xI} (hI : xm_good Iv)  : xm_okb Iv RX11 cX11_score false 5 lX11_score bX11_score_26 26 := xo_0 dX11_score_26 rfl trivial (xo_n)
theorem oX11_score_27 {Iv : xI} (hI : xm_good Iv)  : xm_okb Iv RX11 cX11_score false 5 lX11_score bX11_score_27 27 := xo_0 dX11_score_27 rfl trivial (xo_0 dX11_score_28 rfl trivial (xo_c rfl (cv_X11_bad hI dX11_score_29 (Or.inl q2137) (by decide)) (xo_0 dX11_score_32 rfl rfl (xo_0 dX11_score_35 rfl trivial (xo_0 dX11_score_36 rfl trivial (xo_n))))))
theorem oX11_score_37 {Iv : xI} (hI : xm_good Iv)  : xm_okb Iv RX11 cX11_score false 5 lX11_score bX11_score_37 37 := xo_0 dX11_score_37 rfl trivial (xo_0 dX11_score_38 rfl trivial (xo_1 dX11_score_39 rfl (xm_fg_of (Or.inl q1991) (by decide) rfl (by decide) rfl rfl (Or.inl rfl) rfl) (xo_0 dX11_score_42 rfl trivial (xo_0 dX11_score_43 rfl trivial (xo_c rfl (cv_X11_scoreOf hI dX11_score_44 (Or.inl q2343) (by decide)) (xo_0 dX11_score_47 rfl trivial (xo_n)))))))
theorem oX11_score {Iv : xI} (hI : xm_good Iv)  : ∀ q ∈ kX11_score, xm_okb Iv RX11 cX11_score false 5 lX11_score q.2 q.1 := by
  intro q hq
  simp only [List.mem_cons, List.not_mem_nil, or_false] at hq
  rcases hq with rfl | rfl | rfl | rfl | rfl
  · exact oX11_score_0 hI  
  · exact oX11_score_22 hI  
  · exact oX11_score_26 hI  
  · exact oX11_score_27 hI  
  · exact oX11_score_37 hI  
def S_X11_score : xS := tU fun as I Q => ∃ a b, as = [.ref 0, .int a, .int b] ∧ t_good I ∧ t_P Q (q_score (tG I) a b)
theorem body_X11_score : xm_Body 3 0 0 0 [] lX11_score kX11_score S_X11_score := by
  intro X avs w Q QX hX0 hS
  have hG := xm_go [] hX0
  have hX := xm_go [] hX0
  clear hX0
  obtain ⟨I, rfl, a, b, rfl, hg, hQ⟩ := hS
  refine ⟨rfl, ?_⟩
  repeat' (first
    | ((with_reducible refine @And.intro (vp_in _ _) _ ?_ ?_); (· (first | with_reducible assumption | ((with_reducible refine t_vin ?_); decide) | ((with_reducible refine vp_in_nI ?_ ?_) <;> first | omega | decide) | (simp (disch := omega) only [xl_n, xl_m, nI_dec, nI_sb, nI_add, pk_mul]; (with_reducible refine vp_in_nI ?_ ?_) <;> first | omega | decide))); (conv => whnf))
    | (refine And.intro (by first | with_reducible assumption | exact (show tL _ = _ from rfl) | decide) ?_; (conv => whnf))
    | ((with_reducible refine @And.intro (_ = _) _ ?_ ?_); (· rfl); (conv => whnf))
    | ((with_reducible refine @And.intro (@LE.le Nat _ _ _) _ ?_ ?_); (· (first | exact Nat.zero_le _ | exact Nat.le_of_ble_eq_true rfl | omega)); (conv => whnf))
    | ((with_reducible refine @And.intro (@LT.lt Nat _ _ _) _ ?_ ?_); (· omega); (conv => whnf))
    | ((with_reducible refine @And.intro (∃ _, _ = _) _ ?_ ?_); (· exact ⟨_, rfl⟩); (conv => whnf))
    | ((with_reducible refine @And.intro (_ ∨ _) _ ?_ ?_); (· (first | exact Or.inl rfl | exact Or.inr rfl | exact t_b01 _ | assumption)); (conv => whnf))
    | ((with_reducible refine @And.intro (¬ (_ = _)) _ ?_ ?_); (· first | assumption | (with_reducible assumption)); (conv => whnf))
    | (refine hX _ _ _ _ _ _ ?_; (conv => whnf); fail_if_success show False)
    | fail)
  rw [t_si]
  obtain ⟨J, hJ, hg1, hG1, h01⟩ := t_pub hg
  rw [← hJ]
  rw [← hG1] at hQ
  clear hJ hG1 hg I
  have hg := hg1
  have hok := hg.1
  have hl := hg.2.1
  have h8 := hok.2.2.2.1
  have h9 := hok.2.1
  (conv => whnf)
  rcases t_pc hg a with ⟨p, hp, rfl, e1, f1⟩ | ⟨e1, f1⟩
  · rcases t_hc hg b with ⟨h, hh, rfl, e2, f2⟩ | ⟨e2, f2⟩
    · repeat' (first
        | ((with_reducible refine @And.intro (vp_in _ _) _ ?_ ?_); (· (first | with_reducible assumption | ((with_reducible refine t_vin ?_); decide) | ((with_reducible refine vp_in_nI ?_ ?_) <;> first | omega | decide) | (simp (disch := omega) only [xl_n, xl_m, nI_dec, nI_sb, nI_add, pk_mul]; (with_reducible refine vp_in_nI ?_ ?_) <;> first | omega | decide))); (conv => whnf))
        | (refine And.intro (by first | with_reducible assumption | exact (show tL _ = _ from rfl) | decide) ?_; (conv => whnf))
        | ((with_reducible refine @And.intro (_ = _) _ ?_ ?_); (· rfl); (conv => whnf))
        | ((with_reducible refine @And.intro (@LE.le Nat _ _ _) _ ?_ ?_); (· (first | exact Nat.zero_le _ | exact Nat.le_of_ble_eq_true rfl | omega)); (conv => whnf))
        | ((with_reducible refine @And.intro (@LT.lt Nat _ _ _) _ ?_ ?_); (· omega); (conv => whnf))
        | ((with_reducible refine @And.intro (∃ _, _ = _) _ ?_ ?_); (· exact ⟨_, rfl⟩); (conv => whnf))
        | ((with_reducible refine @And.intro (_ ∨ _) _ ?_ ?_); (· (first | exact Or.inl rfl | exact Or.inr rfl | exact t_b01 _ | assumption)); (conv => whnf))
        | ((with_reducible refine @And.intro (¬ (_ = _)) _ ?_ ?_); (· first | assumption | (with_reducible assumption)); (conv => whnf))
        | (refine hX _ _ _ _ _ _ ?_; (conv => whnf); fail_if_success show False)
        | (rw [t_si]; (conv => whnf))
        | (refine ⟨_, rfl, ?_⟩; (conv => whnf))
        | (refine ⟨_, _, rfl, ?_⟩; (conv => whnf))
        | (refine ⟨_, _, _, rfl, ?_⟩; (conv => whnf))
        | (refine ⟨_, _, _, _, rfl, ?_⟩; (conv => whnf))
        | (rw [e1]; (conv => whnf))
        | (rw [e2]; (conv => whnf))
        | (refine And.intro (fun c => ?_) (fun c => ?_) <;> (first | (exact absurd c (by decide +kernel)) | (conv => whnf)))
        | fail)
      intro L hL
      (conv => whnf)
      rw [q_score, f1, f2, nI_clamp (by omega), nI_clamp (by omega)] at hQ
      exact t_ask hQ hg (hL.sl.sp t_f34) ((hL.2 0 (by unfold t_scf; omega)).trans h01) rfl
    · repeat' (first
        | ((with_reducible refine @And.intro (vp_in _ _) _ ?_ ?_); (· (first | with_reducible assumption | ((with_reducible refine t_vin ?_); decide) | ((with_reducible refine vp_in_nI ?_ ?_) <;> first | omega | decide) | (simp (disch := omega) only [xl_n, xl_m, nI_dec, nI_sb, nI_add, pk_mul]; (with_reducible refine vp_in_nI ?_ ?_) <;> first | omega | decide))); (conv => whnf))
        | (refine And.intro (by first | with_reducible assumption | exact (show tL _ = _ from rfl) | decide) ?_; (conv => whnf))
        | ((with_reducible refine @And.intro (_ = _) _ ?_ ?_); (· rfl); (conv => whnf))
        | ((with_reducible refine @And.intro (@LE.le Nat _ _ _) _ ?_ ?_); (· (first | exact Nat.zero_le _ | exact Nat.le_of_ble_eq_true rfl | omega)); (conv => whnf))
        | ((with_reducible refine @And.intro (@LT.lt Nat _ _ _) _ ?_ ?_); (· omega); (conv => whnf))
        | ((with_reducible refine @And.intro (∃ _, _ = _) _ ?_ ?_); (· exact ⟨_, rfl⟩); (conv => whnf))
        | ((with_reducible refine @And.intro (_ ∨ _) _ ?_ ?_); (· (first | exact Or.inl rfl | exact Or.inr rfl | exact t_b01 _ | assumption)); (conv => whnf))
        | ((with_reducible refine @And.intro (¬ (_ = _)) _ ?_ ?_); (· first | assumption | (with_reducible assumption)); (conv => whnf))
        | (refine hX _ _ _ _ _ _ ?_; (conv => whnf); fail_if_success show False)
        | (rw [t_si]; (conv => whnf))
        | (refine ⟨_, rfl, ?_⟩; (conv => whnf))
        | (refine ⟨_, _, rfl, ?_⟩; (conv => whnf))
        | (refine ⟨_, _, _, rfl, ?_⟩; (conv => whnf))
        | (refine ⟨_, _, _, _, rfl, ?_⟩; (conv => whnf))
        | (rw [e1]; (conv => whnf))
        | (rw [e2]; (conv => whnf))
        | (refine And.intro (fun c => ?_) (fun c => ?_) <;> (first | (exact absurd c (by decide +kernel)) | (conv => whnf)))
        | fail)
      exact t_ref' hQ hg h01 (by rw [f1, f2]; rfl) (by decide) rfl rfl
  · repeat' (first
      | ((with_reducible refine @And.intro (vp_in _ _) _ ?_ ?_); (· (first | with_reducible assumption | ((with_reducible refine t_vin ?_); decide) | ((with_reducible refine vp_in_nI ?_ ?_) <;> first | omega | decide) | (simp (disch := omega) only [xl_n, xl_m, nI_dec, nI_sb, nI_add, pk_mul]; (with_reducible refine vp_in_nI ?_ ?_) <;> first | omega | decide))); (conv => whnf))
      | (refine And.intro (by first | with_reducible assumption | exact (show tL _ = _ from rfl) | decide) ?_; (conv => whnf))
      | ((with_reducible refine @And.intro (_ = _) _ ?_ ?_); (· rfl); (conv => whnf))
      | ((with_reducible refine @And.intro (@LE.le Nat _ _ _) _ ?_ ?_); (· (first | exact Nat.zero_le _ | exact Nat.le_of_ble_eq_true rfl | omega)); (conv => whnf))
      | ((with_reducible refine @And.intro (@LT.lt Nat _ _ _) _ ?_ ?_); (· omega); (conv => whnf))
      | ((with_reducible refine @And.intro (∃ _, _ = _) _ ?_ ?_); (· exact ⟨_, rfl⟩); (conv => whnf))
      | ((with_reducible refine @And.intro (_ ∨ _) _ ?_ ?_); (· (first | exact Or.inl rfl | exact Or.inr rfl | exact t_b01 _ | assumption)); (conv => whnf))
      | ((with_reducible refine @And.intro (¬ (_ = _)) _ ?_ ?_); (· first | assumption | (with_reducible assumption)); (conv => whnf))
      | (refine hX _ _ _ _ _ _ ?_; (conv => whnf); fail_if_success show False)
      | (rw [t_si]; (conv => whnf))
      | (refine ⟨_, rfl, ?_⟩; (conv => whnf))
      | (refine ⟨_, _, rfl, ?_⟩; (conv => whnf))
      | (refine ⟨_, _, _, rfl, ?_⟩; (conv => whnf))
      | (refine ⟨_, _, _, _, rfl, ?_⟩; (conv => whnf))
      | (rw [e1]; (conv => whnf))
      | (rw [e2]; (conv => whnf))
      | (refine And.intro (fun c => ?_) (fun c => ?_) <;> (first | (exact absurd c (by decide +kernel)) | (conv => whnf)))
      | fail)
    exact t_ref' hQ hg h01 (by rw [f1]; rfl) (by decide) rfl rfl
theorem ct_X11_score {Iv : xI} (hI : xm_good Iv) : xm_Ct Iv yX11_score (ws_ yX11_score cX11_score 3 (some .int)) 5 0 0 S_X11_score := xm_enter (rt := 0) (init := false) (by decide +kernel) rfl (fun h => by cases h) (Or.inl ⟨rfl, rfl⟩) (oX11_score hI) body_X11_score
theorem cv_X11_score {Iv : xI} {own : String} {cc : ByteArray} {fr pc idx : Nat} (hI : xm_good Iv) (hdg : decode cc pc = .ok (.invokevirtual idx, 3)) (hl : xm_ml own idx yX11_score) (hfr : 5 < fr) : xm_CallOK Iv own cc fr pc (pc + 3) 3 0 0 (xm_this 8 S_X11_score) := xm_callV 8 hI (ct_X11_score hI) hdg hl q2340 q2341 q145 q2342 rfl rfl (by decide +kernel) hfr (by decide)
def q_chooses (G : gG) (a : Int32) : gR := g_ck G (g_isP G a) (nI 1) 0 (g_says G (t_o (g_chosen (gGK G) (gnow G) a.toNatClampNeg)))
abbrev bX11_chooses_0 : List xE := [(.aload_n 0, 1, 0, 0, 0), (.iconst 0, 2, 0, 0, 0), (.putfield 134, 5, 8, 0, 0), (.aload_n 0, 6, 0, 0, 0), (.aload_n 0, 7, 0, 0, 0), (.iload_n 1, 8, 0, 0, 0), (.invokevirtual 338, 11, 0, 0, 9), (.ifCond .ne 7, 14, 0, 18, 0), (.iconst 1, 15, 0, 0, 0), (.goto 4, 18, 0, 19, 0)]
abbrev bX11_chooses_18 : List xE := [(.iconst 0, 19, 0, 0, 0)]
abbrev bX11_chooses_19 : List xE := [(.iconst 1, 20, 0, 0, 0), (.iconst 0, 21, 0, 0, 0), (.invokevirtual 249, 24, 0, 1, 9), (.ifCond .eq 5, 27, 0, 29, 0), (.iconst 0, 28, 0, 0, 0), (.ireturn, 29, 0, 0, 0)]
abbrev bX11_chooses_29 : List xE := [(.aload_n 0, 30, 0, 0, 0), (.aload_n 0, 31, 0, 0, 0), (.getfield 91, 34, 8, 36, 1), (.iload_n 1, 35, 0, 0, 0), (.invokevirtual 364, 38, 0, 2, 9), (.ireturn, 39, 0, 0, 0)]
abbrev kX11_chooses : List (Nat × List xE) := [(0, bX11_chooses_0), (18, bX11_chooses_18), (19, bX11_chooses_19), (29, bX11_chooses_29)]
abbrev lX11_chooses : List (Nat × Nat × Nat × xS) := [(2, 0, 0, xm_this 8 S_X11_isPuppet), (4, 0, 0, xm_this 8 S_X11_bad), (3, 0, 0, xm_this 8 S_X11_chosen)]
theorem oX11_chooses_0 {Iv : xI} (hI : xm_good Iv)  : xm_okb Iv RX11 cX11_chooses false 6 lX11_chooses bX11_chooses_0 0 := xo_0 dX11_chooses_0 rfl trivial (xo_0 dX11_chooses_1 rfl trivial (xo_0 dX11_chooses_2 rfl (xm_fp_of (xm_fg_of (Or.inl q1955) (by decide) rfl (by decide) rfl rfl (Or.inl rfl) rfl) (by decide) rfl (Or.inl ⟨rfl, rfl⟩) rfl) (xo_0 dX11_chooses_5 rfl trivial (xo_0 dX11_chooses_6 rfl trivial (xo_0 dX11_chooses_7 rfl trivial (xo_c rfl (cv_X11_isPuppet hI dX11_chooses_8 (Or.inl q2319) (by decide)) (xo_0 dX11_chooses_11 rfl rfl (xo_0 dX11_chooses_14 rfl trivial (xo_0 dX11_chooses_15 rfl rfl (xo_n))))))))))
theorem oX11_chooses_18 {Iv : xI} (hI : xm_good Iv)  : xm_okb Iv RX11 cX11_chooses false 6 lX11_chooses bX11_chooses_18 18 := xo_0 dX11_chooses_18 rfl trivial (xo_n)
theorem oX11_chooses_19 {Iv : xI} (hI : xm_good Iv)  : xm_okb Iv RX11 cX11_chooses false 6 lX11_chooses bX11_chooses_19 19 := xo_0 dX11_chooses_19 rfl trivial (xo_0 dX11_chooses_20 rfl trivial (xo_c rfl (cv_X11_bad hI dX11_chooses_21 (Or.inl q2137) (by decide)) (xo_0 dX11_chooses_24 rfl rfl (xo_0 dX11_chooses_27 rfl trivial (xo_0 dX11_chooses_28 rfl trivial (xo_n))))))
theorem oX11_chooses_29 {Iv : xI} (hI : xm_good Iv)  : xm_okb Iv RX11 cX11_chooses false 6 lX11_chooses bX11_chooses_29 29 := xo_0 dX11_chooses_29 rfl trivial (xo_0 dX11_chooses_30 rfl trivial (xo_1 dX11_chooses_31 rfl (xm_fg_of (Or.inl q1991) (by decide) rfl (by decide) rfl rfl (Or.inl rfl) rfl) (xo_0 dX11_chooses_34 rfl trivial (xo_c rfl (cv_X11_chosen hI dX11_chooses_35 (Or.inl q2362) (by decide)) (xo_0 dX11_chooses_38 rfl trivial (xo_n))))))
theorem oX11_chooses {Iv : xI} (hI : xm_good Iv)  : ∀ q ∈ kX11_chooses, xm_okb Iv RX11 cX11_chooses false 6 lX11_chooses q.2 q.1 := by
  intro q hq
  simp only [List.mem_cons, List.not_mem_nil, or_false] at hq
  rcases hq with rfl | rfl | rfl | rfl
  · exact oX11_chooses_0 hI  
  · exact oX11_chooses_18 hI  
  · exact oX11_chooses_19 hI  
  · exact oX11_chooses_29 hI  
def S_X11_chooses : xS := tU fun as I Q => ∃ a, as = [.ref 0, .int a] ∧ t_good I ∧ t_P Q (q_chooses (tG I) a)
theorem body_X11_chooses : xm_Body 2 0 0 0 [] lX11_chooses kX11_chooses S_X11_chooses := by
  intro X avs w Q QX hX0 hS
  have hG := xm_go [] hX0
  have hX := xm_go [] hX0
  clear hX0
  obtain ⟨I, rfl, a, rfl, hg, hQ⟩ := hS
  refine ⟨rfl, ?_⟩
  repeat' (first
    | ((with_reducible refine @And.intro (vp_in _ _) _ ?_ ?_); (· (first | with_reducible assumption | ((with_reducible refine t_vin ?_); decide) | ((with_reducible refine vp_in_nI ?_ ?_) <;> first | omega | decide) | (simp (disch := omega) only [xl_n, xl_m, nI_dec, nI_sb, nI_add, pk_mul]; (with_reducible refine vp_in_nI ?_ ?_) <;> first | omega | decide))); (conv => whnf))
    | (refine And.intro (by first | with_reducible assumption | exact (show tL _ = _ from rfl) | decide) ?_; (conv => whnf))
    | ((with_reducible refine @And.intro (_ = _) _ ?_ ?_); (· rfl); (conv => whnf))
    | ((with_reducible refine @And.intro (@LE.le Nat _ _ _) _ ?_ ?_); (· (first | exact Nat.zero_le _ | exact Nat.le_of_ble_eq_true rfl | omega)); (conv => whnf))
    | ((with_reducible refine @And.intro (@LT.lt Nat _ _ _) _ ?_ ?_); (· omega); (conv => whnf))
    | ((with_reducible refine @And.intro (∃ _, _ = _) _ ?_ ?_); (· exact ⟨_, rfl⟩); (conv => whnf))
    | ((with_reducible refine @And.intro (_ ∨ _) _ ?_ ?_); (· (first | exact Or.inl rfl | exact Or.inr rfl | exact t_b01 _ | assumption)); (conv => whnf))
    | ((with_reducible refine @And.intro (¬ (_ = _)) _ ?_ ?_); (· first | assumption | (with_reducible assumption)); (conv => whnf))
    | (refine hX _ _ _ _ _ _ ?_; (conv => whnf); fail_if_success show False)
    | fail)
  rw [t_si]
  obtain ⟨J, hJ, hg1, hG1, h01⟩ := t_pub hg
  rw [← hJ]
  rw [← hG1] at hQ
  clear hJ hG1 hg I
  have hg := hg1
  have hok := hg.1
  have hl := hg.2.1
  have h8 := hok.2.2.2.1
  have h9 := hok.2.1
  (conv => whnf)
  rcases t_pc hg a with ⟨p, hp, rfl, e1, f1⟩ | ⟨e1, f1⟩
  · repeat' (first
      | ((with_reducible refine @And.intro (vp_in _ _) _ ?_ ?_); (· (first | with_reducible assumption | ((with_reducible refine t_vin ?_); decide) | ((with_reducible refine vp_in_nI ?_ ?_) <;> first | omega | decide) | (simp (disch := omega) only [xl_n, xl_m, nI_dec, nI_sb, nI_add, pk_mul]; (with_reducible refine vp_in_nI ?_ ?_) <;> first | omega | decide))); (conv => whnf))
      | (refine And.intro (by first | with_reducible assumption | exact (show tL _ = _ from rfl) | decide) ?_; (conv => whnf))
      | ((with_reducible refine @And.intro (_ = _) _ ?_ ?_); (· rfl); (conv => whnf))
      | ((with_reducible refine @And.intro (@LE.le Nat _ _ _) _ ?_ ?_); (· (first | exact Nat.zero_le _ | exact Nat.le_of_ble_eq_true rfl | omega)); (conv => whnf))
      | ((with_reducible refine @And.intro (@LT.lt Nat _ _ _) _ ?_ ?_); (· omega); (conv => whnf))
      | ((with_reducible refine @And.intro (∃ _, _ = _) _ ?_ ?_); (· exact ⟨_, rfl⟩); (conv => whnf))
      | ((with_reducible refine @And.intro (_ ∨ _) _ ?_ ?_); (· (first | exact Or.inl rfl | exact Or.inr rfl | exact t_b01 _ | assumption)); (conv => whnf))
      | ((with_reducible refine @And.intro (¬ (_ = _)) _ ?_ ?_); (· first | assumption | (with_reducible assumption)); (conv => whnf))
      | (refine hX _ _ _ _ _ _ ?_; (conv => whnf); fail_if_success show False)
      | (rw [t_si]; (conv => whnf))
      | (refine ⟨_, rfl, ?_⟩; (conv => whnf))
      | (refine ⟨_, _, rfl, ?_⟩; (conv => whnf))
      | (refine ⟨_, _, _, rfl, ?_⟩; (conv => whnf))
      | (refine ⟨_, _, _, _, rfl, ?_⟩; (conv => whnf))
      | (rw [e1]; (conv => whnf))
      | (refine And.intro (fun c => ?_) (fun c => ?_) <;> (first | (exact absurd c (by decide +kernel)) | (conv => whnf)))
      | fail)
    intro L hL
    (conv => whnf)
    rw [q_chooses, f1, nI_clamp (by omega)] at hQ
    exact t_ask hQ hg (hL.sl.sp t_f34) ((hL.2 0 (by unfold t_scf; omega)).trans h01) rfl
  · repeat' (first
      | ((with_reducible refine @And.intro (vp_in _ _) _ ?_ ?_); (· (first | with_reducible assumption | ((with_reducible refine t_vin ?_); decide) | ((with_reducible refine vp_in_nI ?_ ?_) <;> first | omega | decide) | (simp (disch := omega) only [xl_n, xl_m, nI_dec, nI_sb, nI_add, pk_mul]; (with_reducible refine vp_in_nI ?_ ?_) <;> first | omega | decide))); (conv => whnf))
      | (refine And.intro (by first | with_reducible assumption | exact (show tL _ = _ from rfl) | decide) ?_; (conv => whnf))
      | ((with_reducible refine @And.intro (_ = _) _ ?_ ?_); (· rfl); (conv => whnf))
      | ((with_reducible refine @And.intro (@LE.le Nat _ _ _) _ ?_ ?_); (· (first | exact Nat.zero_le _ | exact Nat.le_of_ble_eq_true rfl | omega)); (conv => whnf))
      | ((with_reducible refine @And.intro (@LT.lt Nat _ _ _) _ ?_ ?_); (· omega); (conv => whnf))
      | ((with_reducible refine @And.intro (∃ _, _ = _) _ ?_ ?_); (· exact ⟨_, rfl⟩); (conv => whnf))
      | ((with_reducible refine @And.intro (_ ∨ _) _ ?_ ?_); (· (first | exact Or.inl rfl | exact Or.inr rfl | exact t_b01 _ | assumption)); (conv => whnf))
      | ((with_reducible refine @And.intro (¬ (_ = _)) _ ?_ ?_); (· first | assumption | (with_reducible assumption)); (conv => whnf))
      | (refine hX _ _ _ _ _ _ ?_; (conv => whnf); fail_if_success show False)
      | (rw [t_si]; (conv => whnf))
      | (refine ⟨_, rfl, ?_⟩; (conv => whnf))
      | (refine ⟨_, _, rfl, ?_⟩; (conv => whnf))
      | (refine ⟨_, _, _, rfl, ?_⟩; (conv => whnf))
      | (refine ⟨_, _, _, _, rfl, ?_⟩; (conv => whnf))
      | (rw [e1]; (conv => whnf))
      | (refine And.intro (fun c => ?_) (fun c => ?_) <;> (first | (exact absurd c (by decide +kernel)) | (conv => whnf)))
      | fail)
    exact t_ref' hQ hg h01 (by rw [f1]) (by decide) rfl rfl
theorem ct_X11_chooses {Iv : xI} (hI : xm_good Iv) : xm_Ct Iv yX11_chooses (ws_ yX11_chooses cX11_chooses 2 (some .int)) 6 0 0 S_X11_chooses := xm_enter (rt := 0) (init := false) (by decide +kernel) rfl (fun h => by cases h) (Or.inl ⟨rfl, rfl⟩) (oX11_chooses hI) body_X11_chooses
theorem cv_X11_chooses {Iv : xI} {own : String} {cc : ByteArray} {fr pc idx : Nat} (hI : xm_good Iv) (hdg : decode cc pc = .ok (.invokevirtual idx, 3)) (hl : xm_ml own idx yX11_chooses) (hfr : 6 < fr) : xm_CallOK Iv own cc fr pc (pc + 3) 2 0 0 (xm_this 8 S_X11_chooses) := xm_callV 8 hI (ct_X11_chooses hI) hdg hl q2359 q2360 q145 q2361 rfl rfl (by decide +kernel) hfr (by decide)
def q_since (G : gG) (a b : Int32) : gR := g_ck G (g_isH G a && g_isP G b) (nI 1) 0 (g_says G (gsi (gnow G) a.toNatClampNeg b.toNatClampNeg))
abbrev bX11_since_0 : List xE := [(.aload_n 0, 1, 0, 0, 0), (.iconst 0, 2, 0, 0, 0), (.putfield 134, 5, 8, 0, 0), (.aload_n 0, 6, 0, 0, 0), (.aload_n 0, 7, 0, 0, 0), (.iload_n 1, 8, 0, 0, 0), (.invokevirtual 331, 11, 0, 0, 9), (.ifCond .eq 11, 14, 0, 22, 0), (.aload_n 0, 15, 0, 0, 0), (.iload_n 2, 16, 0, 0, 0), (.invokevirtual 338, 19, 0, 1, 9), (.ifCond .ne 7, 22, 0, 26, 0)]
abbrev bX11_since_22 : List xE := [(.iconst 1, 23, 0, 0, 0), (.goto 4, 26, 0, 27, 0)]
abbrev bX11_since_26 : List xE := [(.iconst 0, 27, 0, 0, 0)]
abbrev bX11_since_27 : List xE := [(.iconst 1, 28, 0, 0, 0), (.iconst 0, 29, 0, 0, 0), (.invokevirtual 249, 32, 0, 2, 9), (.ifCond .eq 5, 35, 0, 37, 0), (.iconst 0, 36, 0, 0, 0), (.ireturn, 37, 0, 0, 0)]
abbrev bX11_since_37 : List xE := [(.aload_n 0, 38, 0, 0, 0), (.getfield 91, 41, 8, 36, 1), (.bipush 25, 43, 0, 0, 0), (.bipush 8, 45, 0, 0, 0), (.iload_n 1, 46, 0, 0, 0), (.imul, 47, 0, 0, 0), (.iadd, 48, 0, 0, 0), (.iload_n 2, 49, 0, 0, 0), (.iadd, 50, 0, 0, 0), (.iaload, 51, 0, 0, 0), (.ireturn, 52, 0, 0, 0)]
abbrev kX11_since : List (Nat × List xE) := [(0, bX11_since_0), (22, bX11_since_22), (26, bX11_since_26), (27, bX11_since_27), (37, bX11_since_37)]
abbrev lX11_since : List (Nat × Nat × Nat × xS) := [(2, 0, 0, xm_this 8 S_X11_isHand), (2, 0, 0, xm_this 8 S_X11_isPuppet), (4, 0, 0, xm_this 8 S_X11_bad)]
theorem oX11_since_0 {Iv : xI} (hI : xm_good Iv)  : xm_okb Iv RX11 cX11_since false 3 lX11_since bX11_since_0 0 := xo_0 dX11_since_0 rfl trivial (xo_0 dX11_since_1 rfl trivial (xo_0 dX11_since_2 rfl (xm_fp_of (xm_fg_of (Or.inl q1955) (by decide) rfl (by decide) rfl rfl (Or.inl rfl) rfl) (by decide) rfl (Or.inl ⟨rfl, rfl⟩) rfl) (xo_0 dX11_since_5 rfl trivial (xo_0 dX11_since_6 rfl trivial (xo_0 dX11_since_7 rfl trivial (xo_c rfl (cv_X11_isHand hI dX11_since_8 (Or.inl q2304) (by decide)) (xo_0 dX11_since_11 rfl rfl (xo_0 dX11_since_14 rfl trivial (xo_0 dX11_since_15 rfl trivial (xo_c rfl (cv_X11_isPuppet hI dX11_since_16 (Or.inl q2319) (by decide)) (xo_0 dX11_since_19 rfl rfl (xo_n))))))))))))
theorem oX11_since_22 {Iv : xI} (hI : xm_good Iv)  : xm_okb Iv RX11 cX11_since false 3 lX11_since bX11_since_22 22 := xo_0 dX11_since_22 rfl trivial (xo_0 dX11_since_23 rfl rfl (xo_n))
theorem oX11_since_26 {Iv : xI} (hI : xm_good Iv)  : xm_okb Iv RX11 cX11_since false 3 lX11_since bX11_since_26 26 := xo_0 dX11_since_26 rfl trivial (xo_n)
theorem oX11_since_27 {Iv : xI} (hI : xm_good Iv)  : xm_okb Iv RX11 cX11_since false 3 lX11_since bX11_since_27 27 := xo_0 dX11_since_27 rfl trivial (xo_0 dX11_since_28 rfl trivial (xo_c rfl (cv_X11_bad hI dX11_since_29 (Or.inl q2137) (by decide)) (xo_0 dX11_since_32 rfl rfl (xo_0 dX11_since_35 rfl trivial (xo_0 dX11_since_36 rfl trivial (xo_n))))))
theorem oX11_since_37 {Iv : xI} (hI : xm_good Iv)  : xm_okb Iv RX11 cX11_since false 3 lX11_since bX11_since_37 37 := xo_0 dX11_since_37 rfl trivial (xo_1 dX11_since_38 rfl (xm_fg_of (Or.inl q1991) (by decide) rfl (by decide) rfl rfl (Or.inl rfl) rfl) (xo_0 dX11_since_41 rfl (xo_bipush (by decide +kernel)) (xo_0 dX11_since_43 rfl (xo_bipush (by decide +kernel)) (xo_0 dX11_since_45 rfl trivial (xo_0 dX11_since_46 rfl trivial (xo_0 dX11_since_47 rfl trivial (xo_0 dX11_since_48 rfl trivial (xo_0 dX11_since_49 rfl trivial (xo_0 dX11_since_50 rfl trivial (xo_0 dX11_since_51 rfl trivial (xo_n)))))))))))
theorem oX11_since {Iv : xI} (hI : xm_good Iv)  : ∀ q ∈ kX11_since, xm_okb Iv RX11 cX11_since false 3 lX11_since q.2 q.1 := by
  intro q hq
  simp only [List.mem_cons, List.not_mem_nil, or_false] at hq
  rcases hq with rfl | rfl | rfl | rfl | rfl
  · exact oX11_since_0 hI  
  · exact oX11_since_22 hI  
  · exact oX11_since_26 hI  
  · exact oX11_since_27 hI  
  · exact oX11_since_37 hI  
def S_X11_since : xS := tU fun as I Q => ∃ a b, as = [.ref 0, .int a, .int b] ∧ t_good I ∧ t_P Q (q_since (tG I) a b)
theorem body_X11_since : xm_Body 3 0 0 0 [] lX11_since kX11_since S_X11_since := by
  intro X avs w Q QX hX0 hS
  have hG := xm_go [] hX0
  have hX := xm_go [] hX0
  clear hX0
  obtain ⟨I, rfl, a, b, rfl, hg, hQ⟩ := hS
  refine ⟨rfl, ?_⟩
  repeat' (first
    | ((with_reducible refine @And.intro (vp_in _ _) _ ?_ ?_); (· (first | with_reducible assumption | ((with_reducible refine t_vin ?_); decide) | ((with_reducible refine vp_in_nI ?_ ?_) <;> first | omega | decide) | (simp (disch := omega) only [xl_n, xl_m, nI_dec, nI_sb, nI_add, pk_mul]; (with_reducible refine vp_in_nI ?_ ?_) <;> first | omega | decide))); (conv => whnf))
    | (refine And.intro (by first | with_reducible assumption | exact (show tL _ = _ from rfl) | decide) ?_; (conv => whnf))
    | ((with_reducible refine @And.intro (_ = _) _ ?_ ?_); (· rfl); (conv => whnf))
    | ((with_reducible refine @And.intro (@LE.le Nat _ _ _) _ ?_ ?_); (· (first | exact Nat.zero_le _ | exact Nat.le_of_ble_eq_true rfl | omega)); (conv => whnf))
    | ((with_reducible refine @And.intro (@LT.lt Nat _ _ _) _ ?_ ?_); (· omega); (conv => whnf))
    | ((with_reducible refine @And.intro (∃ _, _ = _) _ ?_ ?_); (· exact ⟨_, rfl⟩); (conv => whnf))
    | ((with_reducible refine @And.intro (_ ∨ _) _ ?_ ?_); (· (first | exact Or.inl rfl | exact Or.inr rfl | exact t_b01 _ | assumption)); (conv => whnf))
    | ((with_reducible refine @And.intro (¬ (_ = _)) _ ?_ ?_); (· first | assumption | (with_reducible assumption)); (conv => whnf))
    | (refine hX _ _ _ _ _ _ ?_; (conv => whnf); fail_if_success show False)
    | fail)
  rw [t_si]
  obtain ⟨J, hJ, hg1, hG1, h01⟩ := t_pub hg
  rw [← hJ]
  rw [← hG1] at hQ
  clear hJ hG1 hg I
  have hg := hg1
  have hok := hg.1
  have hl := hg.2.1
  have h8 := hok.2.2.2.1
  have h9 := hok.2.1
  (conv => whnf)
  rcases t_hc hg a with ⟨h, hh, rfl, e1, f1⟩ | ⟨e1, f1⟩
  · rcases t_pc hg b with ⟨p, hp, rfl, e2, f2⟩ | ⟨e2, f2⟩
    · repeat' (first
        | ((with_reducible refine @And.intro (vp_in _ _) _ ?_ ?_); (· (first | with_reducible assumption | ((with_reducible refine t_vin ?_); decide) | ((with_reducible refine vp_in_nI ?_ ?_) <;> first | omega | decide) | (simp (disch := omega) only [xl_n, xl_m, nI_dec, nI_sb, nI_add, pk_mul]; (with_reducible refine vp_in_nI ?_ ?_) <;> first | omega | decide))); (conv => whnf))
        | (refine And.intro (by first | with_reducible assumption | exact (show tL _ = _ from rfl) | decide) ?_; (conv => whnf))
        | ((with_reducible refine @And.intro (_ = _) _ ?_ ?_); (· rfl); (conv => whnf))
        | ((with_reducible refine @And.intro (@LE.le Nat _ _ _) _ ?_ ?_); (· (first | exact Nat.zero_le _ | exact Nat.le_of_ble_eq_true rfl | omega)); (conv => whnf))
        | ((with_reducible refine @And.intro (@LT.lt Nat _ _ _) _ ?_ ?_); (· omega); (conv => whnf))
        | ((with_reducible refine @And.intro (∃ _, _ = _) _ ?_ ?_); (· exact ⟨_, rfl⟩); (conv => whnf))
        | ((with_reducible refine @And.intro (_ ∨ _) _ ?_ ?_); (· (first | exact Or.inl rfl | exact Or.inr rfl | exact t_b01 _ | assumption)); (conv => whnf))
        | ((with_reducible refine @And.intro (¬ (_ = _)) _ ?_ ?_); (· first | assumption | (with_reducible assumption)); (conv => whnf))
        | (refine hX _ _ _ _ _ _ ?_; (conv => whnf); fail_if_success show False)
        | (rw [t_si]; (conv => whnf))
        | (refine ⟨_, rfl, ?_⟩; (conv => whnf))
        | (refine ⟨_, _, rfl, ?_⟩; (conv => whnf))
        | (refine ⟨_, _, _, rfl, ?_⟩; (conv => whnf))
        | (refine ⟨_, _, _, _, rfl, ?_⟩; (conv => whnf))
        | (rw [e1]; (conv => whnf))
        | (rw [e2]; (conv => whnf))
        | (refine And.intro (fun c => ?_) (fun c => ?_) <;> (first | (exact absurd c (by decide +kernel)) | (conv => whnf)))
        | fail)
      rw [q_since, f1, f2, nI_clamp (by omega), nI_clamp (by omega)] at hQ
      refine t_ask hQ hg t_sp.rf h01 ?_
      clear hX hG
      simp (disch := omega) only [xl_n, xl_m, nI_dec, nI_sb, xl_0, xl_1, tW_i, t_bn0, t_bn1, Classical.not_not, t_lt, nI_add, nI_1, pk_mul, nI_clamp, t_si, nI_eq, nI_leI, nM_ne, nM_ne] at *
      exact (tA_gsi (by omega) (by omega)).symm
    · repeat' (first
        | ((with_reducible refine @And.intro (vp_in _ _) _ ?_ ?_); (· (first | with_reducible assumption | ((with_reducible refine t_vin ?_); decide) | ((with_reducible refine vp_in_nI ?_ ?_) <;> first | omega | decide) | (simp (disch := omega) only [xl_n, xl_m, nI_dec, nI_sb, nI_add, pk_mul]; (with_reducible refine vp_in_nI ?_ ?_) <;> first | omega | decide))); (conv => whnf))
        | (refine And.intro (by first | with_reducible assumption | exact (show tL _ = _ from rfl) | decide) ?_; (conv => whnf))
        | ((with_reducible refine @And.intro (_ = _) _ ?_ ?_); (· rfl); (conv => whnf))
        | ((with_reducible refine @And.intro (@LE.le Nat _ _ _) _ ?_ ?_); (· (first | exact Nat.zero_le _ | exact Nat.le_of_ble_eq_true rfl | omega)); (conv => whnf))
        | ((with_reducible refine @And.intro (@LT.lt Nat _ _ _) _ ?_ ?_); (· omega); (conv => whnf))
        | ((with_reducible refine @And.intro (∃ _, _ = _) _ ?_ ?_); (· exact ⟨_, rfl⟩); (conv => whnf))
        | ((with_reducible refine @And.intro (_ ∨ _) _ ?_ ?_); (· (first | exact Or.inl rfl | exact Or.inr rfl | exact t_b01 _ | assumption)); (conv => whnf))
        | ((with_reducible refine @And.intro (¬ (_ = _)) _ ?_ ?_); (· first | assumption | (with_reducible assumption)); (conv => whnf))
        | (refine hX _ _ _ _ _ _ ?_; (conv => whnf); fail_if_success show False)
        | (rw [t_si]; (conv => whnf))
        | (refine ⟨_, rfl, ?_⟩; (conv => whnf))
        | (refine ⟨_, _, rfl, ?_⟩; (conv => whnf))
        | (refine ⟨_, _, _, rfl, ?_⟩; (conv => whnf))
        | (refine ⟨_, _, _, _, rfl, ?_⟩; (conv => whnf))
        | (rw [e1]; (conv => whnf))
        | (rw [e2]; (conv => whnf))
        | (refine And.intro (fun c => ?_) (fun c => ?_) <;> (first | (exact absurd c (by decide +kernel)) | (conv => whnf)))
        | fail)
      exact t_ref' hQ hg h01 (by rw [f1, f2]; rfl) (by decide) rfl rfl
  · repeat' (first
      | ((with_reducible refine @And.intro (vp_in _ _) _ ?_ ?_); (· (first | with_reducible assumption | ((with_reducible refine t_vin ?_); decide) | ((with_reducible refine vp_in_nI ?_ ?_) <;> first | omega | decide) | (simp (disch := omega) only [xl_n, xl_m, nI_dec, nI_sb, nI_add, pk_mul]; (with_reducible refine vp_in_nI ?_ ?_) <;> first | omega | decide))); (conv => whnf))
      | (refine And.intro (by first | with_reducible assumption | exact (show tL _ = _ from rfl) | decide) ?_; (conv => whnf))
      | ((with_reducible refine @And.intro (_ = _) _ ?_ ?_); (· rfl); (conv => whnf))
      | ((with_reducible refine @And.intro (@LE.le Nat _ _ _) _ ?_ ?_); (· (first | exact Nat.zero_le _ | exact Nat.le_of_ble_eq_true rfl | omega)); (conv => whnf))
      | ((with_reducible refine @And.intro (@LT.lt Nat _ _ _) _ ?_ ?_); (· omega); (conv => whnf))
      | ((with_reducible refine @And.intro (∃ _, _ = _) _ ?_ ?_); (· exact ⟨_, rfl⟩); (conv => whnf))
      | ((with_reducible refine @And.intro (_ ∨ _) _ ?_ ?_); (· (first | exact Or.inl rfl | exact Or.inr rfl | exact t_b01 _ | assumption)); (conv => whnf))
      | ((with_reducible refine @And.intro (¬ (_ = _)) _ ?_ ?_); (· first | assumption | (with_reducible assumption)); (conv => whnf))
      | (refine hX _ _ _ _ _ _ ?_; (conv => whnf); fail_if_success show False)
      | (rw [t_si]; (conv => whnf))
      | (refine ⟨_, rfl, ?_⟩; (conv => whnf))
      | (refine ⟨_, _, rfl, ?_⟩; (conv => whnf))
      | (refine ⟨_, _, _, rfl, ?_⟩; (conv => whnf))
      | (refine ⟨_, _, _, _, rfl, ?_⟩; (conv => whnf))
      | (rw [e1]; (conv => whnf))
      | (rw [e2]; (conv => whnf))
      | (refine And.intro (fun c => ?_) (fun c => ?_) <;> (first | (exact absurd c (by decide +kernel)) | (conv => whnf)))
      | fail)
    exact t_ref' hQ hg h01 (by rw [f1]; rfl) (by decide) rfl rfl
theorem ct_X11_since {Iv : xI} (hI : xm_good Iv) : xm_Ct Iv yX11_since (ws_ yX11_since cX11_since 3 (some .int)) 3 0 0 S_X11_since := xm_enter (rt := 0) (init := false) (by decide +kernel) rfl (fun h => by cases h) (Or.inl ⟨rfl, rfl⟩) (oX11_since hI) body_X11_since
theorem cv_X11_since {Iv : xI} {own : String} {cc : ByteArray} {fr pc idx : Nat} (hI : xm_good Iv) (hdg : decode cc pc = .ok (.invokevirtual idx, 3)) (hl : xm_ml own idx yX11_since) (hfr : 3 < fr) : xm_CallOK Iv own cc fr pc (pc + 3) 3 0 0 (xm_this 8 S_X11_since) := xm_callV 8 hI (ct_X11_since hI) hdg hl q2400 q2401 q145 q2402 rfl rfl (by decide +kernel) hfr (by decide)
def q_chose (G : gG) (a : Int32) : gR := g_ck G (g_isH G a) (nI 1) 0 (g_says G (gc (gnow G) a.toNatClampNeg))
abbrev bX11_chose_0 : List xE := [(.aload_n 0, 1, 0, 0, 0), (.iconst 0, 2, 0, 0, 0), (.putfield 134, 5, 8, 0, 0), (.aload_n 0, 6, 0, 0, 0), (.aload_n 0, 7, 0, 0, 0), (.iload_n 1, 8, 0, 0, 0), (.invokevirtual 331, 11, 0, 0, 9), (.ifCond .ne 7, 14, 0, 18, 0), (.iconst 1, 15, 0, 0, 0), (.goto 4, 18, 0, 19, 0)]
abbrev bX11_chose_18 : List xE := [(.iconst 0, 19, 0, 0, 0)]
abbrev bX11_chose_19 : List xE := [(.iconst 1, 20, 0, 0, 0), (.iconst 0, 21, 0, 0, 0), (.invokevirtual 249, 24, 0, 1, 9), (.ifCond .eq 5, 27, 0, 29, 0), (.iconst 0, 28, 0, 0, 0), (.ireturn, 29, 0, 0, 0)]
abbrev bX11_chose_29 : List xE := [(.aload_n 0, 30, 0, 0, 0), (.getfield 91, 33, 8, 36, 1), (.bipush 97, 35, 0, 0, 0), (.iload_n 1, 36, 0, 0, 0), (.iadd, 37, 0, 0, 0), (.iaload, 38, 0, 0, 0), (.ireturn, 39, 0, 0, 0)]
abbrev kX11_chose : List (Nat × List xE) := [(0, bX11_chose_0), (18, bX11_chose_18), (19, bX11_chose_19), (29, bX11_chose_29)]
abbrev lX11_chose : List (Nat × Nat × Nat × xS) := [(2, 0, 0, xm_this 8 S_X11_isHand), (4, 0, 0, xm_this 8 S_X11_bad)]
theorem oX11_chose_0 {Iv : xI} (hI : xm_good Iv)  : xm_okb Iv RX11 cX11_chose false 3 lX11_chose bX11_chose_0 0 := xo_0 dX11_chose_0 rfl trivial (xo_0 dX11_chose_1 rfl trivial (xo_0 dX11_chose_2 rfl (xm_fp_of (xm_fg_of (Or.inl q1955) (by decide) rfl (by decide) rfl rfl (Or.inl rfl) rfl) (by decide) rfl (Or.inl ⟨rfl, rfl⟩) rfl) (xo_0 dX11_chose_5 rfl trivial (xo_0 dX11_chose_6 rfl trivial (xo_0 dX11_chose_7 rfl trivial (xo_c rfl (cv_X11_isHand hI dX11_chose_8 (Or.inl q2304) (by decide)) (xo_0 dX11_chose_11 rfl rfl (xo_0 dX11_chose_14 rfl trivial (xo_0 dX11_chose_15 rfl rfl (xo_n))))))))))
theorem oX11_chose_18 {Iv : xI} (hI : xm_good Iv)  : xm_okb Iv RX11 cX11_chose false 3 lX11_chose bX11_chose_18 18 := xo_0 dX11_chose_18 rfl trivial (xo_n)
theorem oX11_chose_19 {Iv : xI} (hI : xm_good Iv)  : xm_okb Iv RX11 cX11_chose false 3 lX11_chose bX11_chose_19 19 := xo_0 dX11_chose_19 rfl trivial (xo_0 dX11_chose_20 rfl trivial (xo_c rfl (cv_X11_bad hI dX11_chose_21 (Or.inl q2137) (by decide)) (xo_0 dX11_chose_24 rfl rfl (xo_0 dX11_chose_27 rfl trivial (xo_0 dX11_chose_28 rfl trivial (xo_n))))))
theorem oX11_chose_29 {Iv : xI} (hI : xm_good Iv)  : xm_okb Iv RX11 cX11_chose false 3 lX11_chose bX11_chose_29 29 := xo_0 dX11_chose_29 rfl trivial (xo_1 dX11_chose_30 rfl (xm_fg_of (Or.inl q1991) (by decide) rfl (by decide) rfl rfl (Or.inl rfl) rfl) (xo_0 dX11_chose_33 rfl (xo_bipush (by decide +kernel)) (xo_0 dX11_chose_35 rfl trivial (xo_0 dX11_chose_36 rfl trivial (xo_0 dX11_chose_37 rfl trivial (xo_0 dX11_chose_38 rfl trivial (xo_n)))))))
theorem oX11_chose {Iv : xI} (hI : xm_good Iv)  : ∀ q ∈ kX11_chose, xm_okb Iv RX11 cX11_chose false 3 lX11_chose q.2 q.1 := by
  intro q hq
  simp only [List.mem_cons, List.not_mem_nil, or_false] at hq
  rcases hq with rfl | rfl | rfl | rfl
  · exact oX11_chose_0 hI  
  · exact oX11_chose_18 hI  
  · exact oX11_chose_19 hI  
  · exact oX11_chose_29 hI  
def S_X11_chose : xS := tU fun as I Q => ∃ a, as = [.ref 0, .int a] ∧ t_good I ∧ t_P Q (q_chose (tG I) a)
theorem body_X11_chose : xm_Body 2 0 0 0 [] lX11_chose kX11_chose S_X11_chose := by
  intro X avs w Q QX hX0 hS
  have hG := xm_go [] hX0
  have hX := xm_go [] hX0
  clear hX0
  obtain ⟨I, rfl, a, rfl, hg, hQ⟩ := hS
  refine ⟨rfl, ?_⟩
  repeat' (first
    | ((with_reducible refine @And.intro (vp_in _ _) _ ?_ ?_); (· (first | with_reducible assumption | ((with_reducible refine t_vin ?_); decide) | ((with_reducible refine vp_in_nI ?_ ?_) <;> first | omega | decide) | (simp (disch := omega) only [xl_n, xl_m, nI_dec, nI_sb, nI_add, pk_mul]; (with_reducible refine vp_in_nI ?_ ?_) <;> first | omega | decide))); (conv => whnf))
    | (refine And.intro (by first | with_reducible assumption | exact (show tL _ = _ from rfl) | decide) ?_; (conv => whnf))
    | ((with_reducible refine @And.intro (_ = _) _ ?_ ?_); (· rfl); (conv => whnf))
    | ((with_reducible refine @And.intro (@LE.le Nat _ _ _) _ ?_ ?_); (· (first | exact Nat.zero_le _ | exact Nat.le_of_ble_eq_true rfl | omega)); (conv => whnf))
    | ((with_reducible refine @And.intro (@LT.lt Nat _ _ _) _ ?_ ?_); (· omega); (conv => whnf))
    | ((with_reducible refine @And.intro (∃ _, _ = _) _ ?_ ?_); (· exact ⟨_, rfl⟩); (conv => whnf))
    | ((with_reducible refine @And.intro (_ ∨ _) _ ?_ ?_); (· (first | exact Or.inl rfl | exact Or.inr rfl | exact t_b01 _ | assumption)); (conv => whnf))
    | ((with_reducible refine @And.intro (¬ (_ = _)) _ ?_ ?_); (· first | assumption | (with_reducible assumption)); (conv => whnf))
    | (refine hX _ _ _ _ _ _ ?_; (conv => whnf); fail_if_success show False)
    | fail)
  rw [t_si]
  obtain ⟨J, hJ, hg1, hG1, h01⟩ := t_pub hg
  rw [← hJ]
  rw [← hG1] at hQ
  clear hJ hG1 hg I
  have hg := hg1
  have hok := hg.1
  have hl := hg.2.1
  have h8 := hok.2.2.2.1
  have h9 := hok.2.1
  (conv => whnf)
  rcases t_hc hg a with ⟨h, hh, rfl, e1, f1⟩ | ⟨e1, f1⟩
  · repeat' (first
      | ((with_reducible refine @And.intro (vp_in _ _) _ ?_ ?_); (· (first | with_reducible assumption | ((with_reducible refine t_vin ?_); decide) | ((with_reducible refine vp_in_nI ?_ ?_) <;> first | omega | decide) | (simp (disch := omega) only [xl_n, xl_m, nI_dec, nI_sb, nI_add, pk_mul]; (with_reducible refine vp_in_nI ?_ ?_) <;> first | omega | decide))); (conv => whnf))
      | (refine And.intro (by first | with_reducible assumption | exact (show tL _ = _ from rfl) | decide) ?_; (conv => whnf))
      | ((with_reducible refine @And.intro (_ = _) _ ?_ ?_); (· rfl); (conv => whnf))
      | ((with_reducible refine @And.intro (@LE.le Nat _ _ _) _ ?_ ?_); (· (first | exact Nat.zero_le _ | exact Nat.le_of_ble_eq_true rfl | omega)); (conv => whnf))
      | ((with_reducible refine @And.intro (@LT.lt Nat _ _ _) _ ?_ ?_); (· omega); (conv => whnf))
      | ((with_reducible refine @And.intro (∃ _, _ = _) _ ?_ ?_); (· exact ⟨_, rfl⟩); (conv => whnf))
      | ((with_reducible refine @And.intro (_ ∨ _) _ ?_ ?_); (· (first | exact Or.inl rfl | exact Or.inr rfl | exact t_b01 _ | assumption)); (conv => whnf))
      | ((with_reducible refine @And.intro (¬ (_ = _)) _ ?_ ?_); (· first | assumption | (with_reducible assumption)); (conv => whnf))
      | (refine hX _ _ _ _ _ _ ?_; (conv => whnf); fail_if_success show False)
      | (rw [t_si]; (conv => whnf))
      | (refine ⟨_, rfl, ?_⟩; (conv => whnf))
      | (refine ⟨_, _, rfl, ?_⟩; (conv => whnf))
      | (refine ⟨_, _, _, rfl, ?_⟩; (conv => whnf))
      | (refine ⟨_, _, _, _, rfl, ?_⟩; (conv => whnf))
      | (rw [e1]; (conv => whnf))
      | (refine And.intro (fun c => ?_) (fun c => ?_) <;> (first | (exact absurd c (by decide +kernel)) | (conv => whnf)))
      | fail)
    rw [q_chose, f1, nI_clamp (by omega)] at hQ
    refine t_ask hQ hg t_sp.rf h01 ?_
    clear hX hG
    simp (disch := omega) only [xl_n, xl_m, nI_dec, nI_sb, xl_0, xl_1, tW_i, t_bn0, t_bn1, Classical.not_not, t_lt, nI_add, nI_1, pk_mul, nI_clamp, t_si, nI_eq, nI_leI, nM_ne, nM_ne] at *
    exact (tA_gc (by omega)).symm
  · repeat' (first
      | ((with_reducible refine @And.intro (vp_in _ _) _ ?_ ?_); (· (first | with_reducible assumption | ((with_reducible refine t_vin ?_); decide) | ((with_reducible refine vp_in_nI ?_ ?_) <;> first | omega | decide) | (simp (disch := omega) only [xl_n, xl_m, nI_dec, nI_sb, nI_add, pk_mul]; (with_reducible refine vp_in_nI ?_ ?_) <;> first | omega | decide))); (conv => whnf))
      | (refine And.intro (by first | with_reducible assumption | exact (show tL _ = _ from rfl) | decide) ?_; (conv => whnf))
      | ((with_reducible refine @And.intro (_ = _) _ ?_ ?_); (· rfl); (conv => whnf))
      | ((with_reducible refine @And.intro (@LE.le Nat _ _ _) _ ?_ ?_); (· (first | exact Nat.zero_le _ | exact Nat.le_of_ble_eq_true rfl | omega)); (conv => whnf))
      | ((with_reducible refine @And.intro (@LT.lt Nat _ _ _) _ ?_ ?_); (· omega); (conv => whnf))
      | ((with_reducible refine @And.intro (∃ _, _ = _) _ ?_ ?_); (· exact ⟨_, rfl⟩); (conv => whnf))
      | ((with_reducible refine @And.intro (_ ∨ _) _ ?_ ?_); (· (first | exact Or.inl rfl | exact Or.inr rfl | exact t_b01 _ | assumption)); (conv => whnf))
      | ((with_reducible refine @And.intro (¬ (_ = _)) _ ?_ ?_); (· first | assumption | (with_reducible assumption)); (conv => whnf))
      | (refine hX _ _ _ _ _ _ ?_; (conv => whnf); fail_if_success show False)
      | (rw [t_si]; (conv => whnf))
      | (refine ⟨_, rfl, ?_⟩; (conv => whnf))
      | (refine ⟨_, _, rfl, ?_⟩; (conv => whnf))
      | (refine ⟨_, _, _, rfl, ?_⟩; (conv => whnf))
      | (refine ⟨_, _, _, _, rfl, ?_⟩; (conv => whnf))
      | (rw [e1]; (conv => whnf))
      | (refine And.intro (fun c => ?_) (fun c => ?_) <;> (first | (exact absurd c (by decide +kernel)) | (conv => whnf)))
      | fail)
    exact t_ref' hQ hg h01 (by rw [f1]) (by decide) rfl rfl
theorem ct_X11_chose {Iv : xI} (hI : xm_good Iv) : xm_Ct Iv yX11_chose (ws_ yX11_chose cX11_chose 2 (some .int)) 3 0 0 S_X11_chose := xm_enter (rt := 0) (init := false) (by decide +kernel) rfl (fun h => by cases h) (Or.inl ⟨rfl, rfl⟩) (oX11_chose hI) body_X11_chose
theorem cv_X11_chose {Iv : xI} {own : String} {cc : ByteArray} {fr pc idx : Nat} (hI : xm_good Iv) (hdg : decode cc pc = .ok (.invokevirtual idx, 3)) (hl : xm_ml own idx yX11_chose) (hfr : 3 < fr) : xm_CallOK Iv own cc fr pc (pc + 3) 2 0 0 (xm_this 8 S_X11_chose) := xm_callV 8 hI (ct_X11_chose hI) hdg hl q2404 q2405 q145 q2406 rfl rfl (by decide +kernel) hfr (by decide)
