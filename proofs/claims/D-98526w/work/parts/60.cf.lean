/-! ===== the reference: who may be cast ===== -/
set_option maxRecDepth 100000
def q_thumbs (G : gG) (a : Int32) : gR := g_ck G (g_isA G a) (nI 1) 0 (g_says G (if g_nowc G a.toNatClampNeg = [] then nI 0 else g_thumbs (gn (gGK G)) (g_nowc G a.toNatClampNeg)))
theorem g_many_0 {L : List (List Int32)} (h : L.length < 2 ^ 31) : (g_many L = 0) = (L = []) := by
  unfold g_many
  by_cases q : L.length ≤ 1000000
  · rw [if_pos q, ← nI_0, nI_eq h (by omega)]
    exact propext List.length_eq_zero_iff
  · rw [if_neg q]
    refine propext ⟨fun e => absurd e (by decide +kernel), fun e => ?_⟩
    rw [e] at q
    exact absurd (Nat.zero_le _) q
theorem t_now_lt {I : tI} (hg : t_good I) (hnd : g_need (tG I)) {a : Nat} (ha : a < t_a I) : (g_nowc (tG I) a).length < 2 ^ 31 := by
  obtain ⟨hP, h6⟩ := t_act_ok hg ha
  exact Nat.lt_of_le_of_lt (g_cs_lt hnd hg.1.2.1 hP h6) (by decide)
abbrev bX11_thumbs_0 : List xE := [(.aload_n 0, 1, 0, 0, 0), (.iconst 0, 2, 0, 0, 0), (.putfield 134, 5, 8, 0, 0), (.aload_n 0, 6, 0, 0, 0), (.aload_n 0, 7, 0, 0, 0), (.iload_n 1, 8, 0, 0, 0), (.invokevirtual 344, 11, 0, 0, 9), (.ifCond .ne 7, 14, 0, 18, 0), (.iconst 1, 15, 0, 0, 0), (.goto 4, 18, 0, 19, 0)]
abbrev bX11_thumbs_18 : List xE := [(.iconst 0, 19, 0, 0, 0)]
abbrev bX11_thumbs_19 : List xE := [(.iconst 1, 20, 0, 0, 0), (.iconst 0, 21, 0, 0, 0), (.invokevirtual 249, 24, 0, 1, 9), (.ifCond .eq 5, 27, 0, 29, 0), (.iconst 0, 28, 0, 0, 0), (.ireturn, 29, 0, 0, 0)]
abbrev bX11_thumbs_29 : List xE := [(.aload_n 0, 30, 0, 0, 0), (.iload_n 1, 31, 0, 0, 0), (.invokevirtual 415, 34, 0, 2, 9), (.ifCond .ne 7, 37, 0, 41, 0), (.iconst 0, 38, 0, 0, 0), (.goto 7, 41, 0, 45, 0)]
abbrev bX11_thumbs_41 : List xE := [(.aload_n 0, 42, 0, 0, 0), (.getfield 397, 45, 8, 53, 0)]
abbrev bX11_thumbs_45 : List xE := [(.ireturn, 46, 0, 0, 0)]
abbrev kX11_thumbs : List (Nat × List xE) := [(0, bX11_thumbs_0), (18, bX11_thumbs_18), (19, bX11_thumbs_19), (29, bX11_thumbs_29), (41, bX11_thumbs_41), (45, bX11_thumbs_45)]
abbrev lX11_thumbs : List (Nat × Nat × Nat × xS) := [(2, 0, 0, xm_this 8 S_X11_isAct), (4, 0, 0, xm_this 8 S_X11_bad), (2, 0, 0, xm_this 8 S_X11_castsOf)]
theorem oX11_thumbs_0 {Iv : xI} (hI : xm_good Iv)  : xm_okb Iv RX11 cX11_thumbs false 25 lX11_thumbs bX11_thumbs_0 0 := xo_0 dX11_thumbs_0 rfl trivial (xo_0 dX11_thumbs_1 rfl trivial (xo_0 dX11_thumbs_2 rfl (xm_fp_of (xm_fg_of (Or.inl q1955) (by decide) rfl (by decide) rfl rfl (Or.inl rfl) rfl) (by decide) rfl (Or.inl ⟨rfl, rfl⟩) rfl) (xo_0 dX11_thumbs_5 rfl trivial (xo_0 dX11_thumbs_6 rfl trivial (xo_0 dX11_thumbs_7 rfl trivial (xo_c rfl (cv_X11_isAct hI dX11_thumbs_8 (Or.inl q2331) (by decide)) (xo_0 dX11_thumbs_11 rfl rfl (xo_0 dX11_thumbs_14 rfl trivial (xo_0 dX11_thumbs_15 rfl rfl (xo_n))))))))))
theorem oX11_thumbs_18 {Iv : xI} (hI : xm_good Iv)  : xm_okb Iv RX11 cX11_thumbs false 25 lX11_thumbs bX11_thumbs_18 18 := xo_0 dX11_thumbs_18 rfl trivial (xo_n)
theorem oX11_thumbs_19 {Iv : xI} (hI : xm_good Iv)  : xm_okb Iv RX11 cX11_thumbs false 25 lX11_thumbs bX11_thumbs_19 19 := xo_0 dX11_thumbs_19 rfl trivial (xo_0 dX11_thumbs_20 rfl trivial (xo_c rfl (cv_X11_bad hI dX11_thumbs_21 (Or.inl q2137) (by decide)) (xo_0 dX11_thumbs_24 rfl rfl (xo_0 dX11_thumbs_27 rfl trivial (xo_0 dX11_thumbs_28 rfl trivial (xo_n))))))
theorem oX11_thumbs_29 {Iv : xI} (hI : xm_good Iv)  : xm_okb Iv RX11 cX11_thumbs false 25 lX11_thumbs bX11_thumbs_29 29 := xo_0 dX11_thumbs_29 rfl trivial (xo_0 dX11_thumbs_30 rfl trivial (xo_c rfl (cv_X11_castsOf hI dX11_thumbs_31 (Or.inl q2464) (by decide)) (xo_0 dX11_thumbs_34 rfl rfl (xo_0 dX11_thumbs_37 rfl trivial (xo_0 dX11_thumbs_38 rfl rfl (xo_n))))))
theorem oX11_thumbs_41 {Iv : xI} (hI : xm_good Iv)  : xm_okb Iv RX11 cX11_thumbs false 25 lX11_thumbs bX11_thumbs_41 41 := xo_0 dX11_thumbs_41 rfl trivial (xo_0 dX11_thumbs_42 rfl (xm_fg_of (Or.inl q2008) (by decide) rfl (by decide) rfl rfl (Or.inl rfl) rfl) (xo_n))
theorem oX11_thumbs_45 {Iv : xI} (hI : xm_good Iv)  : xm_okb Iv RX11 cX11_thumbs false 25 lX11_thumbs bX11_thumbs_45 45 := xo_0 dX11_thumbs_45 rfl trivial (xo_n)
theorem oX11_thumbs {Iv : xI} (hI : xm_good Iv)  : ∀ q ∈ kX11_thumbs, xm_okb Iv RX11 cX11_thumbs false 25 lX11_thumbs q.2 q.1 := by
  intro q hq
  simp only [List.mem_cons, List.not_mem_nil, or_false] at hq
  rcases hq with rfl | rfl | rfl | rfl | rfl | rfl
  · exact oX11_thumbs_0 hI  
  · exact oX11_thumbs_18 hI  
  · exact oX11_thumbs_19 hI  
  · exact oX11_thumbs_29 hI  
  · exact oX11_thumbs_41 hI  
  · exact oX11_thumbs_45 hI  
def S_X11_thumbs : xS := tU fun as I Q => ∃ a, as = [.ref 0, .int a] ∧ t_good I ∧ g_need (tG I) ∧ t_P Q (q_thumbs (tG I) a)
theorem body_X11_thumbs : xm_Body 2 0 0 0 [] lX11_thumbs kX11_thumbs S_X11_thumbs := by
  intro X avs w Q QX hX0 hS
  have hG := xm_go [] hX0
  have hX := xm_go [] hX0
  clear hX0
  obtain ⟨I, rfl, a, rfl, hg, hnd, hQ⟩ := hS
  refine ⟨rfl, ?_⟩
  repeat' (first
    | ((with_reducible refine @And.intro (vp_in _ _) _ ?_ ?_); (· (first | with_reducible assumption | ((with_reducible refine t_vin ?_); decide) | ((with_reducible refine vp_in_nI ?_ ?_) <;> first | omega | decide) | (simp (disch := omega) only [xl_n, xl_m, nI_dec, nI_sb, nI_add, pk_mul]; (with_reducible refine vp_in_nI ?_ ?_) <;> first | omega | decide))); (conv => whnf))
    | (refine And.intro (by first | with_reducible assumption | exact (show tL _ = _ from rfl) | decide) ?_; (conv => whnf))
    | ((with_reducible refine @And.intro (_ = _) _ ?_ ?_); (· rfl); (conv => whnf))
    | ((with_reducible refine @And.intro (@LE.le Nat _ _ _) _ ?_ ?_); (· (first | exact Nat.zero_le _ | exact Nat.le_of_ble_eq_true rfl | omega)); (conv => whnf))
    | ((with_reducible refine @And.intro (@LT.lt Nat _ _ _) _ ?_ ?_); (· omega); (conv => whnf))
    | ((with_reducible refine @And.intro (∃ _, _ = _) _ ?_ ?_); (· exact ⟨_, rfl⟩); (conv => whnf))
    | ((with_reducible refine @And.intro (_ ∨ _) _ ?_ ?_); (· (first | exact Or.inl rfl | exact Or.inr rfl | exact t_b01 _ | assumption)); (conv => whnf))
    | ((with_reducible refine @And.intro (¬ (_ = _)) _ ?_ ?_); (· first | assumption | (with_reducible assumption)); (conv => whnf))
    | (refine hX _ _ _ _ _ _ ?_; (conv => whnf); fail_if_success show False)
    | fail)
  rw [t_si]
  obtain ⟨J, hJ, hg1, hG1, h01⟩ := t_pub hg
  rw [← hJ]
  rw [← hG1] at hQ hnd
  clear hJ hG1 hg I
  have hg := hg1
  have hok := hg.1
  have hl := hg.2.1
  have h8 := hok.2.2.2.1
  have h9 := hok.2.1
  (conv => whnf)
  rcases t_ac hg a with ⟨p, hp, rfl, e1, f1⟩ | ⟨e1, f1⟩
  · have hlt := t_now_lt hg hnd hp
    rw [q_thumbs, f1, g_ck_t, nI_clamp (by have := hok.2.2.2.2.2; omega)] at hQ
    repeat' (first
      | ((with_reducible refine @And.intro (vp_in _ _) _ ?_ ?_); (· (first | with_reducible assumption | ((with_reducible refine t_vin ?_); decide) | ((with_reducible refine vp_in_nI ?_ ?_) <;> first | omega | decide) | (simp (disch := omega) only [xl_n, xl_m, nI_dec, nI_sb, nI_add, pk_mul]; (with_reducible refine vp_in_nI ?_ ?_) <;> first | omega | decide))); (conv => whnf))
      | (refine And.intro (by first | with_reducible assumption | exact (show tL _ = _ from rfl) | decide) ?_; (conv => whnf))
      | ((with_reducible refine @And.intro (_ = _) _ ?_ ?_); (· rfl); (conv => whnf))
      | ((with_reducible refine @And.intro (@LE.le Nat _ _ _) _ ?_ ?_); (· (first | exact Nat.zero_le _ | exact Nat.le_of_ble_eq_true rfl | omega)); (conv => whnf))
      | ((with_reducible refine @And.intro (@LT.lt Nat _ _ _) _ ?_ ?_); (· omega); (conv => whnf))
      | ((with_reducible refine @And.intro (∃ _, _ = _) _ ?_ ?_); (· exact ⟨_, rfl⟩); (conv => whnf))
      | ((with_reducible refine @And.intro (_ ∨ _) _ ?_ ?_); (· (first | exact Or.inl rfl | exact Or.inr rfl | exact t_b01 _ | assumption)); (conv => whnf))
      | ((with_reducible refine @And.intro (¬ (_ = _)) _ ?_ ?_); (· first | assumption | (with_reducible assumption)); (conv => whnf))
      | (refine hX _ _ _ _ _ _ ?_; (conv => whnf); fail_if_success show False)
      | (rw [t_si]; (conv => whnf))
      | (refine ⟨_, rfl, ?_⟩; (conv => whnf))
      | (refine ⟨_, _, rfl, ?_⟩; (conv => whnf))
      | (refine ⟨_, _, _, rfl, ?_⟩; (conv => whnf))
      | (refine ⟨_, _, _, _, rfl, ?_⟩; (conv => whnf))
      | (rw [e1]; (conv => whnf))
      | (refine And.intro (fun c => ?_) (fun c => ?_) <;> (first | (exact absurd c (by decide +kernel)) | (conv => whnf)))
      | fail)
    intro M hM h0 _ hA
    (conv => whnf)
    repeat' (first
      | ((with_reducible refine @And.intro (vp_in _ _) _ ?_ ?_); (· (first | with_reducible assumption | ((with_reducible refine t_vin ?_); decide) | ((with_reducible refine vp_in_nI ?_ ?_) <;> first | omega | decide) | (simp (disch := omega) only [xl_n, xl_m, nI_dec, nI_sb, nI_add, pk_mul]; (with_reducible refine vp_in_nI ?_ ?_) <;> first | omega | decide))); (conv => whnf))
      | (refine And.intro (by first | with_reducible assumption | exact (show tL _ = _ from rfl) | decide) ?_; (conv => whnf))
      | ((with_reducible refine @And.intro (_ = _) _ ?_ ?_); (· rfl); (conv => whnf))
      | ((with_reducible refine @And.intro (@LE.le Nat _ _ _) _ ?_ ?_); (· (first | exact Nat.zero_le _ | exact Nat.le_of_ble_eq_true rfl | omega)); (conv => whnf))
      | ((with_reducible refine @And.intro (@LT.lt Nat _ _ _) _ ?_ ?_); (· omega); (conv => whnf))
      | ((with_reducible refine @And.intro (∃ _, _ = _) _ ?_ ?_); (· exact ⟨_, rfl⟩); (conv => whnf))
      | ((with_reducible refine @And.intro (_ ∨ _) _ ?_ ?_); (· (first | exact Or.inl rfl | exact Or.inr rfl | exact t_b01 _ | assumption)); (conv => whnf))
      | ((with_reducible refine @And.intro (¬ (_ = _)) _ ?_ ?_); (· first | assumption | (with_reducible assumption)); (conv => whnf))
      | (refine hX _ _ _ _ _ _ ?_; (conv => whnf); fail_if_success show False)
      | (rw [t_si]; (conv => whnf))
      | (refine ⟨_, rfl, ?_⟩; (conv => whnf))
      | (refine ⟨_, _, rfl, ?_⟩; (conv => whnf))
      | (refine ⟨_, _, _, rfl, ?_⟩; (conv => whnf))
      | (refine ⟨_, _, _, _, rfl, ?_⟩; (conv => whnf))
      | (refine And.intro (fun c => ?_) (fun c => ?_) <;> (first | (exact absurd c (by decide +kernel)) | (conv => whnf)))
      | fail)
    · have c' : ¬ g_many (g_nowc (tG J) p) = 0 := by assumption
      rw [g_many_0 hlt] at c'
      rw [if_neg c'] at hQ
      exact t_ask hQ hg hM (h0.trans h01) (hA.1 rfl).1
    · have c' : g_many (g_nowc (tG J) p) = 0 := Classical.not_not.mp (by assumption)
      rw [g_many_0 hlt] at c'
      rw [if_pos c'] at hQ
      exact t_ask hQ hg hM (h0.trans h01) xl_n.1
  · rw [q_thumbs] at hQ
    repeat' (first
      | ((with_reducible refine @And.intro (vp_in _ _) _ ?_ ?_); (· (first | with_reducible assumption | ((with_reducible refine t_vin ?_); decide) | ((with_reducible refine vp_in_nI ?_ ?_) <;> first | omega | decide) | (simp (disch := omega) only [xl_n, xl_m, nI_dec, nI_sb, nI_add, pk_mul]; (with_reducible refine vp_in_nI ?_ ?_) <;> first | omega | decide))); (conv => whnf))
      | (refine And.intro (by first | with_reducible assumption | exact (show tL _ = _ from rfl) | decide) ?_; (conv => whnf))
      | ((with_reducible refine @And.intro (_ = _) _ ?_ ?_); (· rfl); (conv => whnf))
      | ((with_reducible refine @And.intro (@LE.le Nat _ _ _) _ ?_ ?_); (· (first | exact Nat.zero_le _ | exact Nat.le_of_ble_eq_true rfl | omega)); (conv => whnf))
      | ((with_reducible refine @And.intro (@LT.lt Nat _ _ _) _ ?_ ?_); (· omega); (conv => whnf))
      | ((with_reducible refine @And.intro (∃ _, _ = _) _ ?_ ?_); (· exact ⟨_, rfl⟩); (conv => whnf))
      | ((with_reducible refine @And.intro (_ ∨ _) _ ?_ ?_); (· (first | exact Or.inl rfl | exact Or.inr rfl | exact t_b01 _ | assumption)); (conv => whnf))
      | ((with_reducible refine @And.intro (¬ (_ = _)) _ ?_ ?_); (· first | assumption | (with_reducible assumption)); (conv => whnf))
      | (refine hX _ _ _ _ _ _ ?_; (conv => whnf); fail_if_success show False)
      | (rw [t_si]; (conv => whnf))
      | (refine ⟨_, rfl, ?_⟩; (conv => whnf))
      | (refine ⟨_, _, rfl, ?_⟩; (conv => whnf))
      | (refine ⟨_, _, _, rfl, ?_⟩; (conv => whnf))
      | (refine ⟨_, _, _, _, rfl, ?_⟩; (conv => whnf))
      | (rw [e1]; (conv => whnf))
      | (refine And.intro (fun c => ?_) (fun c => ?_) <;> (first | (exact absurd c (by decide +kernel)) | (conv => whnf)))
      | fail)
    exact t_ref' hQ hg h01 (by simp [f1]) (by decide) rfl rfl
theorem ct_X11_thumbs {Iv : xI} (hI : xm_good Iv) : xm_Ct Iv yX11_thumbs (ws_ yX11_thumbs cX11_thumbs 2 (some .int)) 25 0 0 S_X11_thumbs := xm_enter (rt := 0) (init := false) (by decide +kernel) rfl (fun h => by cases h) (Or.inl ⟨rfl, rfl⟩) (oX11_thumbs hI) body_X11_thumbs
theorem cv_X11_thumbs {Iv : xI} {own : String} {cc : ByteArray} {fr pc idx : Nat} (hI : xm_good Iv) (hdg : decode cc pc = .ok (.invokevirtual idx, 3)) (hl : xm_ml own idx yX11_thumbs) (hfr : 25 < fr) : xm_CallOK Iv own cc fr pc (pc + 3) 2 0 0 (xm_this 8 S_X11_thumbs) := xm_callV 8 hI (ct_X11_thumbs hI) hdg hl q2473 q2474 q145 q2475 rfl rfl (by decide +kernel) hfr (by decide)
/-- whom of P the puppet p has in c -/
def g_pick : gP → List Int32 → Nat → Int32
  | (q, _) :: r, s :: c, p => if q = p then s else g_pick r c p
  | _, _, _ => nI 0
def q_cast (G : gG) (a b : Int32) : gR := g_ck G (g_isA G a && g_isP G b) (nI 1) 0 (g_says G (if g_nowc G a.toNatClampNeg = [] then nI 0 else g_pick (g_act G a.toNatClampNeg) ((g_nowc G a.toNatClampNeg).headD []) b.toNatClampNeg))
theorem g_pick_n : ∀ (P : gP) (c : List Int32) (p k : Nat), P.length = c.length → (∀ j q l, j < k → P[j]? = some (q, l) → ¬ q = p) → g_pick P c p = g_pick (P.drop k) (c.drop k) p
  | P, c, p, 0, _, _ => rfl
  | [], c, p, k + 1, h, _ => by
    have : c = [] := List.length_eq_zero_iff.mp h.symm
    subst this
    rfl
  | (q, l) :: r, [], p, k + 1, h, _ => by simp at h
  | (q, l) :: r, s :: c, p, k + 1, h, hn => by
    have h0 := hn 0 q l (by omega) rfl
    show (if q = p then s else g_pick r c p) = g_pick (r.drop k) (c.drop k) p
    rw [if_neg h0]
    exact g_pick_n r c p k (by simpa using h) fun j q' l' hj hq => hn (j + 1) q' l' (by omega) (by simpa using hq)
theorem g_pick_k {P : gP} {c : List Int32} {p k : Nat} {l : Int32} (hl : P.length = c.length) (hn : ∀ j q l, j < k → P[j]? = some (q, l) → ¬ q = p) (hk : P[k]? = some (p, l)) : g_pick P c p = c.getD k (nI 0) := by
  have hkl := (List.getElem?_eq_some_iff.mp hk).1
  rw [g_pick_n P c p k hl hn, List.drop_eq_getElem_cons hkl, List.drop_eq_getElem_cons (by omega : k < c.length)]
  have e : P[k] = (p, l) := by
    have := List.getElem?_eq_getElem hkl
    rw [hk] at this
    exact (Option.some.inj this).symm
  rw [e]
  show (if p = p then _ else _) = _
  rw [if_pos rfl]
  simp [List.getD, show k < c.length by omega]
theorem g_pick_0 {P : gP} {c : List Int32} {p : Nat} (hl : P.length = c.length) (hn : ∀ j q l, j < P.length → P[j]? = some (q, l) → ¬ q = p) : g_pick P c p = nI 0 := by
  rw [g_pick_n P c p P.length hl hn, List.drop_length, List.drop_of_length_le (by omega)]
  rfl
abbrev bX11_cast_0 : List xE := [(.aload_n 0, 1, 0, 0, 0), (.iconst 0, 2, 0, 0, 0), (.putfield 134, 5, 8, 0, 0), (.aload_n 0, 6, 0, 0, 0), (.aload_n 0, 7, 0, 0, 0), (.iload_n 1, 8, 0, 0, 0), (.invokevirtual 344, 11, 0, 0, 9), (.ifCond .eq 11, 14, 0, 22, 0), (.aload_n 0, 15, 0, 0, 0), (.iload_n 2, 16, 0, 0, 0), (.invokevirtual 338, 19, 0, 1, 9), (.ifCond .ne 7, 22, 0, 26, 0)]
abbrev bX11_cast_22 : List xE := [(.iconst 1, 23, 0, 0, 0), (.goto 4, 26, 0, 27, 0)]
abbrev bX11_cast_26 : List xE := [(.iconst 0, 27, 0, 0, 0)]
abbrev bX11_cast_27 : List xE := [(.iconst 1, 28, 0, 0, 0), (.iconst 0, 29, 0, 0, 0), (.invokevirtual 249, 32, 0, 2, 9), (.ifCond .eq 5, 35, 0, 37, 0), (.iconst 0, 36, 0, 0, 0), (.ireturn, 37, 0, 0, 0)]
abbrev bX11_cast_37 : List xE := [(.aload_n 0, 38, 0, 0, 0), (.iload_n 1, 39, 0, 0, 0), (.iconst 0, 40, 0, 0, 0), (.invokevirtual 408, 43, 0, 3, 9), (.aload_n 0, 44, 0, 0, 0), (.aload_n 0, 45, 0, 0, 0), (.getfield 91, 48, 8, 36, 1), (.aload_n 0, 49, 0, 0, 0), (.aload_n 0, 50, 0, 0, 0), (.getfield 91, 53, 8, 36, 1), (.invokevirtual 324, 56, 0, 4, 9), (.iconst 1, 57, 0, 0, 0), (.invokevirtual 411, 60, 0, 5, 9), (.ifCond .ne 5, 63, 0, 65, 0), (.iconst 0, 64, 0, 0, 0), (.ireturn, 65, 0, 0, 0)]
abbrev bX11_cast_65 : List xE := [(.iconst 0, 66, 0, 0, 0), (.istore_n 3, 67, 0, 0, 0)]
abbrev bX11_cast_67 : List xE := [(.iload_n 3, 68, 0, 0, 0), (.aload_n 0, 69, 0, 0, 0), (.getfield 391, 72, 8, 51, 0), (.if_icmp .ge 26, 75, 0, 98, 0), (.aload_n 0, 76, 0, 0, 0), (.getfield 106, 79, 8, 46, 1), (.iload_n 3, 80, 0, 0, 0), (.iaload, 81, 0, 0, 0), (.iload_n 2, 82, 0, 0, 0), (.if_icmp .ne 10, 85, 0, 92, 0), (.aload_n 0, 86, 0, 0, 0), (.getfield 115, 89, 8, 49, 1), (.iload_n 3, 90, 0, 0, 0), (.iaload, 91, 0, 0, 0), (.ireturn, 92, 0, 0, 0)]
abbrev bX11_cast_92 : List xE := [(.iinc 3 1, 95, 0, 0, 0), (.goto (-28), 98, 0, 67, 0)]
abbrev bX11_cast_98 : List xE := [(.iconst 0, 99, 0, 0, 0), (.ireturn, 100, 0, 0, 0)]
abbrev kX11_cast : List (Nat × List xE) := [(0, bX11_cast_0), (22, bX11_cast_22), (26, bX11_cast_26), (27, bX11_cast_27), (37, bX11_cast_37), (65, bX11_cast_65), (67, bX11_cast_67), (92, bX11_cast_92), (98, bX11_cast_98)]
abbrev lX11_cast : List (Nat × Nat × Nat × xS) := [(2, 0, 0, xm_this 8 S_X11_isAct), (2, 0, 0, xm_this 8 S_X11_isPuppet), (4, 0, 0, xm_this 8 S_X11_bad), (3, 0, 0, xm_this 8 S_X11_sets), (2, 0, 0, xm_this 8 S_X11_aliveOf), (4, 0, 0, xm_this 8 S_X11_castsNow)]
theorem oX11_cast_0 {Iv : xI} (hI : xm_good Iv)  : xm_okb Iv RX11 cX11_cast false 24 lX11_cast bX11_cast_0 0 := xo_0 dX11_cast_0 rfl trivial (xo_0 dX11_cast_1 rfl trivial (xo_0 dX11_cast_2 rfl (xm_fp_of (xm_fg_of (Or.inl q1955) (by decide) rfl (by decide) rfl rfl (Or.inl rfl) rfl) (by decide) rfl (Or.inl ⟨rfl, rfl⟩) rfl) (xo_0 dX11_cast_5 rfl trivial (xo_0 dX11_cast_6 rfl trivial (xo_0 dX11_cast_7 rfl trivial (xo_c rfl (cv_X11_isAct hI dX11_cast_8 (Or.inl q2331) (by decide)) (xo_0 dX11_cast_11 rfl rfl (xo_0 dX11_cast_14 rfl trivial (xo_0 dX11_cast_15 rfl trivial (xo_c rfl (cv_X11_isPuppet hI dX11_cast_16 (Or.inl q2319) (by decide)) (xo_0 dX11_cast_19 rfl rfl (xo_n))))))))))))
theorem oX11_cast_22 {Iv : xI} (hI : xm_good Iv)  : xm_okb Iv RX11 cX11_cast false 24 lX11_cast bX11_cast_22 22 := xo_0 dX11_cast_22 rfl trivial (xo_0 dX11_cast_23 rfl rfl (xo_n))
theorem oX11_cast_26 {Iv : xI} (hI : xm_good Iv)  : xm_okb Iv RX11 cX11_cast false 24 lX11_cast bX11_cast_26 26 := xo_0 dX11_cast_26 rfl trivial (xo_n)
theorem oX11_cast_27 {Iv : xI} (hI : xm_good Iv)  : xm_okb Iv RX11 cX11_cast false 24 lX11_cast bX11_cast_27 27 := xo_0 dX11_cast_27 rfl trivial (xo_0 dX11_cast_28 rfl trivial (xo_c rfl (cv_X11_bad hI dX11_cast_29 (Or.inl q2137) (by decide)) (xo_0 dX11_cast_32 rfl rfl (xo_0 dX11_cast_35 rfl trivial (xo_0 dX11_cast_36 rfl trivial (xo_n))))))
theorem oX11_cast_37 {Iv : xI} (hI : xm_good Iv)  : xm_okb Iv RX11 cX11_cast false 24 lX11_cast bX11_cast_37 37 := xo_0 dX11_cast_37 rfl trivial (xo_0 dX11_cast_38 rfl trivial (xo_0 dX11_cast_39 rfl trivial (xo_c rfl (cv_X11_sets hI dX11_cast_40 (Or.inl q2423) (by decide)) (xo_0 dX11_cast_43 rfl trivial (xo_0 dX11_cast_44 rfl trivial (xo_1 dX11_cast_45 rfl (xm_fg_of (Or.inl q1991) (by decide) rfl (by decide) rfl rfl (Or.inl rfl) rfl) (xo_0 dX11_cast_48 rfl trivial (xo_0 dX11_cast_49 rfl trivial (xo_1 dX11_cast_50 rfl (xm_fg_of (Or.inl q1991) (by decide) rfl (by decide) rfl rfl (Or.inl rfl) rfl) (xo_c rfl (cv_X11_aliveOf hI dX11_cast_53 (Or.inl q2288) (by decide)) (xo_0 dX11_cast_56 rfl trivial (xo_c rfl (cv_X11_castsNow hI dX11_cast_57 (Or.inl q2427) (by decide)) (xo_0 dX11_cast_60 rfl rfl (xo_0 dX11_cast_63 rfl trivial (xo_0 dX11_cast_64 rfl trivial (xo_n))))))))))))))))
theorem oX11_cast_65 {Iv : xI} (hI : xm_good Iv)  : xm_okb Iv RX11 cX11_cast false 24 lX11_cast bX11_cast_65 65 := xo_0 dX11_cast_65 rfl trivial (xo_0 dX11_cast_66 rfl trivial (xo_n))
theorem oX11_cast_67 {Iv : xI} (hI : xm_good Iv)  : xm_okb Iv RX11 cX11_cast false 24 lX11_cast bX11_cast_67 67 := xo_0 dX11_cast_67 rfl trivial (xo_0 dX11_cast_68 rfl trivial (xo_0 dX11_cast_69 rfl (xm_fg_of (Or.inl q2006) (by decide) rfl (by decide) rfl rfl (Or.inl rfl) rfl) (xo_0 dX11_cast_72 rfl rfl (xo_0 dX11_cast_75 rfl trivial (xo_1 dX11_cast_76 rfl (xm_fg_of (Or.inl q2001) (by decide) rfl (by decide) rfl rfl (Or.inl rfl) rfl) (xo_0 dX11_cast_79 rfl trivial (xo_0 dX11_cast_80 rfl trivial (xo_0 dX11_cast_81 rfl trivial (xo_0 dX11_cast_82 rfl rfl (xo_0 dX11_cast_85 rfl trivial (xo_1 dX11_cast_86 rfl (xm_fg_of (Or.inl q2004) (by decide) rfl (by decide) rfl rfl (Or.inl rfl) rfl) (xo_0 dX11_cast_89 rfl trivial (xo_0 dX11_cast_90 rfl trivial (xo_0 dX11_cast_91 rfl trivial (xo_n)))))))))))))))
theorem oX11_cast_92 {Iv : xI} (hI : xm_good Iv)  : xm_okb Iv RX11 cX11_cast false 24 lX11_cast bX11_cast_92 92 := xo_0 dX11_cast_92 rfl trivial (xo_0 dX11_cast_95 rfl rfl (xo_n))
theorem oX11_cast_98 {Iv : xI} (hI : xm_good Iv)  : xm_okb Iv RX11 cX11_cast false 24 lX11_cast bX11_cast_98 98 := xo_0 dX11_cast_98 rfl trivial (xo_0 dX11_cast_99 rfl trivial (xo_n))
theorem oX11_cast {Iv : xI} (hI : xm_good Iv)  : ∀ q ∈ kX11_cast, xm_okb Iv RX11 cX11_cast false 24 lX11_cast q.2 q.1 := by
  intro q hq
  simp only [List.mem_cons, List.not_mem_nil, or_false] at hq
  rcases hq with rfl | rfl | rfl | rfl | rfl | rfl | rfl | rfl | rfl
  · exact oX11_cast_0 hI  
  · exact oX11_cast_22 hI  
  · exact oX11_cast_26 hI  
  · exact oX11_cast_27 hI  
  · exact oX11_cast_37 hI  
  · exact oX11_cast_65 hI  
  · exact oX11_cast_67 hI  
  · exact oX11_cast_92 hI  
  · exact oX11_cast_98 hI  
def S_X11_cast : xS := tU fun as I Q => ∃ a b, as = [.ref 0, .int a, .int b] ∧ t_good I ∧ g_need (tG I) ∧ t_P Q (q_cast (tG I) a b)
theorem body_X11_cast : xm_Body 4 0 0 0 [] lX11_cast kX11_cast S_X11_cast := by
  intro X avs w Q QX hX0 hS
  have hG := xm_go [] hX0
  have hX := xm_go [67] hX0
  clear hX0
  obtain ⟨I, rfl, a, b, rfl, hg, hnd, hQ⟩ := hS
  refine ⟨rfl, ?_⟩
  repeat' (first
    | ((with_reducible refine @And.intro (vp_in _ _) _ ?_ ?_); (· (first | with_reducible assumption | ((with_reducible refine t_vin ?_); decide) | ((with_reducible refine vp_in_nI ?_ ?_) <;> first | omega | decide) | (simp (disch := omega) only [xl_n, xl_m, nI_dec, nI_sb, nI_add, pk_mul]; (with_reducible refine vp_in_nI ?_ ?_) <;> first | omega | decide))); (conv => whnf))
    | (refine And.intro (by first | with_reducible assumption | exact (show tL _ = _ from rfl) | decide) ?_; (conv => whnf))
    | ((with_reducible refine @And.intro (_ = _) _ ?_ ?_); (· rfl); (conv => whnf))
    | ((with_reducible refine @And.intro (@LE.le Nat _ _ _) _ ?_ ?_); (· (first | exact Nat.zero_le _ | exact Nat.le_of_ble_eq_true rfl | omega)); (conv => whnf))
    | ((with_reducible refine @And.intro (@LT.lt Nat _ _ _) _ ?_ ?_); (· omega); (conv => whnf))
    | ((with_reducible refine @And.intro (∃ _, _ = _) _ ?_ ?_); (· exact ⟨_, rfl⟩); (conv => whnf))
    | ((with_reducible refine @And.intro (_ ∨ _) _ ?_ ?_); (· (first | exact Or.inl rfl | exact Or.inr rfl | exact t_b01 _ | assumption)); (conv => whnf))
    | ((with_reducible refine @And.intro (¬ (_ = _)) _ ?_ ?_); (· first | assumption | (with_reducible assumption)); (conv => whnf))
    | (refine hX _ _ _ _ _ _ ?_; (conv => whnf); fail_if_success show False)
    | fail)
  rw [t_si]
  obtain ⟨J, hJ, hg1, hG1, h01⟩ := t_pub hg
  rw [← hJ]
  rw [← hG1] at hQ hnd
  clear hJ hG1 hg I
  have hg := hg1
  have hok := hg.1
  have hl := hg.2.1
  have h8 := hok.2.2.2.1
  have h9 := hok.2.1
  (conv => whnf)
  have h6a := hok.2.2.2.2.2
  rcases t_ac hg a with ⟨a, ha, rfl, e1, f1⟩ | ⟨e1, f1⟩
  · rcases t_pc hg b with ⟨p, hp, rfl, e2, f2⟩ | ⟨e2, f2⟩
    · obtain ⟨hP, h6⟩ := t_act_ok hg ha
      have loop : ¬ g_nowc (tG J) a = [] → ∀ k, k ≤ (g_act (tG J) a).length → ∀ M, t_sp J M → M 0 0 = nI 0 → t_cp M (g_act (tG J) a) → (∀ k, k < (g_act (tG J) a).length → M 49 k = g_first (g_nowc (tG J) a) k) → (∀ j q l, j < k → (g_act (tG J) a)[j]? = some (q, l) → ¬ q = p) → X 67 [some (.ref 0), some (.int (nI a)), some (.int (nI p)), some (.int (nI k))] [] (tW M) 0 0 := by
        intro hne
        rw [q_cast, f1, f2, Bool.and_true, g_ck_t, nI_clamp (by omega), nI_clamp (by omega), if_neg hne] at hQ
        have hlen : (g_act (tG J) a).length = ((g_nowc (tG J) a).headD []).length := by
          cases e : g_nowc (tG J) a with
          | nil => exact absurd e hne
          | cons c L =>
            refine (g_cs_len (G := tG J) (T := gnow (tG J)) (al := g_alive (gGK (tG J)) (gnow (tG J))) (used := nI 0) ?_).symm
            show c ∈ g_nowc (tG J) a
            rw [e]
            exact List.mem_cons_self
        refine t_for fun k h1 ih M hM h0 hcp hF hno => ?_
        have m51 := hcp.1
        refine hG _ _ _ _ _ _ ?_
        (conv => whnf)
        repeat' (first
          | ((with_reducible refine @And.intro (vp_in _ _) _ ?_ ?_); (· (first | with_reducible assumption | ((with_reducible refine t_vin ?_); decide) | ((with_reducible refine vp_in_nI ?_ ?_) <;> first | omega | decide) | (simp (disch := omega) only [xl_n, xl_m, nI_dec, nI_sb, nI_add, pk_mul]; (with_reducible refine vp_in_nI ?_ ?_) <;> first | omega | decide))); (conv => whnf))
          | (refine And.intro (by first | with_reducible assumption | exact (show tL _ = _ from rfl) | decide) ?_; (conv => whnf))
          | ((with_reducible refine @And.intro (_ = _) _ ?_ ?_); (· rfl); (conv => whnf))
          | ((with_reducible refine @And.intro (@LE.le Nat _ _ _) _ ?_ ?_); (· (first | exact Nat.zero_le _ | exact Nat.le_of_ble_eq_true rfl | omega)); (conv => whnf))
          | ((with_reducible refine @And.intro (@LT.lt Nat _ _ _) _ ?_ ?_); (· omega); (conv => whnf))
          | ((with_reducible refine @And.intro (∃ _, _ = _) _ ?_ ?_); (· exact ⟨_, rfl⟩); (conv => whnf))
          | ((with_reducible refine @And.intro (_ ∨ _) _ ?_ ?_); (· (first | exact Or.inl rfl | exact Or.inr rfl | exact t_b01 _ | assumption)); (conv => whnf))
          | ((with_reducible refine @And.intro (¬ (_ = _)) _ ?_ ?_); (· first | assumption | (with_reducible assumption)); (conv => whnf))
          | (refine hX _ _ _ _ _ _ ?_; (conv => whnf); fail_if_success show False)
          | (rw [t_si]; (conv => whnf))
          | (refine ⟨_, rfl, ?_⟩; (conv => whnf))
          | (refine ⟨_, _, rfl, ?_⟩; (conv => whnf))
          | (refine ⟨_, _, _, rfl, ?_⟩; (conv => whnf))
          | (refine ⟨_, _, _, _, rfl, ?_⟩; (conv => whnf))
          | fail)
        refine And.intro (fun c => ?_) (fun c => ?_) <;> (conv => whnf)
        · have : k = (g_act (tG J) a).length := Nat.le_antisymm h1 (t_kge m51 c (by omega) (by omega))
          subst this
          repeat' (first
            | ((with_reducible refine @And.intro (vp_in _ _) _ ?_ ?_); (· (first | with_reducible assumption | ((with_reducible refine t_vin ?_); decide) | ((with_reducible refine vp_in_nI ?_ ?_) <;> first | omega | decide) | (simp (disch := omega) only [xl_n, xl_m, nI_dec, nI_sb, nI_add, pk_mul]; (with_reducible refine vp_in_nI ?_ ?_) <;> first | omega | decide))); (conv => whnf))
            | (refine And.intro (by first | with_reducible assumption | exact (show tL _ = _ from rfl) | decide) ?_; (conv => whnf))
            | ((with_reducible refine @And.intro (_ = _) _ ?_ ?_); (· rfl); (conv => whnf))
            | ((with_reducible refine @And.intro (@LE.le Nat _ _ _) _ ?_ ?_); (· (first | exact Nat.zero_le _ | exact Nat.le_of_ble_eq_true rfl | omega)); (conv => whnf))
            | ((with_reducible refine @And.intro (@LT.lt Nat _ _ _) _ ?_ ?_); (· omega); (conv => whnf))
            | ((with_reducible refine @And.intro (∃ _, _ = _) _ ?_ ?_); (· exact ⟨_, rfl⟩); (conv => whnf))
            | ((with_reducible refine @And.intro (_ ∨ _) _ ?_ ?_); (· (first | exact Or.inl rfl | exact Or.inr rfl | exact t_b01 _ | assumption)); (conv => whnf))
            | ((with_reducible refine @And.intro (¬ (_ = _)) _ ?_ ?_); (· first | assumption | (with_reducible assumption)); (conv => whnf))
            | (refine hX _ _ _ _ _ _ ?_; (conv => whnf); fail_if_success show False)
            | (rw [t_si]; (conv => whnf))
            | (refine ⟨_, rfl, ?_⟩; (conv => whnf))
            | (refine ⟨_, _, rfl, ?_⟩; (conv => whnf))
            | (refine ⟨_, _, _, rfl, ?_⟩; (conv => whnf))
            | (refine ⟨_, _, _, _, rfl, ?_⟩; (conv => whnf))
            | (refine And.intro (fun c => ?_) (fun c => ?_) <;> (first | (exact absurd c (by decide +kernel)) | (conv => whnf)))
            | fail)
          exact t_ask hQ hg hM h0 (xl_n.1.trans (g_pick_0 hlen hno).symm)
        · have hk : k < (g_act (tG J) a).length := t_klt m51 c (by omega)
          obtain ⟨⟨q0, l0⟩, hat⟩ : ∃ z, (g_act (tG J) a)[k]? = some z := ⟨_, List.getElem?_eq_getElem hk⟩
          obtain ⟨q46, q47⟩ := hcp.2 k _ _ hat
          have hqp : q0 < t_p J := hP (q0, l0) (List.mem_of_getElem? hat)
          have nx := ih (k + 1) (by omega) (by omega) M hM h0 hcp hF
          clear ih
          repeat' (first
            | ((with_reducible refine @And.intro (vp_in _ _) _ ?_ ?_); (· (first | with_reducible assumption | ((with_reducible refine t_vin ?_); decide) | ((with_reducible refine vp_in_nI ?_ ?_) <;> first | omega | decide) | (simp (disch := omega) only [xl_n, xl_m, nI_dec, nI_sb, nI_add, pk_mul]; (with_reducible refine vp_in_nI ?_ ?_) <;> first | omega | decide))); (conv => whnf))
            | (refine And.intro (by first | with_reducible assumption | exact (show tL _ = _ from rfl) | decide) ?_; (conv => whnf))
            | ((with_reducible refine @And.intro (_ = _) _ ?_ ?_); (· rfl); (conv => whnf))
            | ((with_reducible refine @And.intro (@LE.le Nat _ _ _) _ ?_ ?_); (· (first | exact Nat.zero_le _ | exact Nat.le_of_ble_eq_true rfl | omega)); (conv => whnf))
            | ((with_reducible refine @And.intro (@LT.lt Nat _ _ _) _ ?_ ?_); (· omega); (conv => whnf))
            | ((with_reducible refine @And.intro (∃ _, _ = _) _ ?_ ?_); (· exact ⟨_, rfl⟩); (conv => whnf))
            | ((with_reducible refine @And.intro (_ ∨ _) _ ?_ ?_); (· (first | exact Or.inl rfl | exact Or.inr rfl | exact t_b01 _ | assumption)); (conv => whnf))
            | ((with_reducible refine @And.intro (¬ (_ = _)) _ ?_ ?_); (· first | assumption | (with_reducible assumption)); (conv => whnf))
            | (refine hX _ _ _ _ _ _ ?_; (conv => whnf); fail_if_success show False)
            | (rw [t_si]; (conv => whnf))
            | (refine ⟨_, rfl, ?_⟩; (conv => whnf))
            | (refine ⟨_, _, rfl, ?_⟩; (conv => whnf))
            | (refine ⟨_, _, _, rfl, ?_⟩; (conv => whnf))
            | (refine ⟨_, _, _, _, rfl, ?_⟩; (conv => whnf))
            | (refine And.intro (fun c => ?_) (fun c => ?_) <;> (first | (exact absurd c (by decide +kernel)) | (conv => whnf)))
            | fail)
          · have c' : ¬ M 46 (nI k).toNatClampNeg = nI p := by assumption
            rw [nI_clamp (by omega), q46, nI_eq (by omega) (by omega)] at c'
            have := nx (fun j q l hj hq => by
              by_cases e : j = k
              · subst e
                rw [hat] at hq
                cases hq
                exact c'
              · exact hno j q l (by omega) hq)
            clear nx hX hG hQ
            simp (disch := omega) only [xl_n, xl_m, nI_dec, nI_sb, xl_0, xl_1, tW_i, t_bn0, t_bn1, Classical.not_not, t_lt, nI_add, nI_1, pk_mul, nI_clamp, t_si, nI_eq, nI_leI, nM_ne, nM_ne, xm_set, xm_lv0, xm_psh] at *
            exact this
          · have c' : M 46 (nI k).toNatClampNeg = nI p := Classical.not_not.mp (by assumption)
            rw [nI_clamp (by omega), q46, nI_eq (by omega) (by omega)] at c'
            rw [c'] at hat
            refine t_ask hQ hg hM h0 ?_
            show M 49 (nI k).toNatClampNeg = _
            rw [nI_clamp (by omega), hF k hk, g_pick_k hlen hno hat]
            rfl
      rw [q_cast, f1, f2, Bool.and_true, g_ck_t, nI_clamp (by omega), nI_clamp (by omega)] at hQ
      repeat' (first
        | ((with_reducible refine @And.intro (vp_in _ _) _ ?_ ?_); (· (first | with_reducible assumption | ((with_reducible refine t_vin ?_); decide) | ((with_reducible refine vp_in_nI ?_ ?_) <;> first | omega | decide) | (simp (disch := omega) only [xl_n, xl_m, nI_dec, nI_sb, nI_add, pk_mul]; (with_reducible refine vp_in_nI ?_ ?_) <;> first | omega | decide))); (conv => whnf))
        | (refine And.intro (by first | with_reducible assumption | exact (show tL _ = _ from rfl) | decide) ?_; (conv => whnf))
        | ((with_reducible refine @And.intro (_ = _) _ ?_ ?_); (· rfl); (conv => whnf))
        | ((with_reducible refine @And.intro (@LE.le Nat _ _ _) _ ?_ ?_); (· (first | exact Nat.zero_le _ | exact Nat.le_of_ble_eq_true rfl | omega)); (conv => whnf))
        | ((with_reducible refine @And.intro (@LT.lt Nat _ _ _) _ ?_ ?_); (· omega); (conv => whnf))
        | ((with_reducible refine @And.intro (∃ _, _ = _) _ ?_ ?_); (· exact ⟨_, rfl⟩); (conv => whnf))
        | ((with_reducible refine @And.intro (_ ∨ _) _ ?_ ?_); (· (first | exact Or.inl rfl | exact Or.inr rfl | exact t_b01 _ | assumption)); (conv => whnf))
        | ((with_reducible refine @And.intro (¬ (_ = _)) _ ?_ ?_); (· first | assumption | (with_reducible assumption)); (conv => whnf))
        | (refine hX _ _ _ _ _ _ ?_; (conv => whnf); fail_if_success show False)
        | (rw [t_si]; (conv => whnf))
        | (refine ⟨_, rfl, ?_⟩; (conv => whnf))
        | (refine ⟨_, _, rfl, ?_⟩; (conv => whnf))
        | (refine ⟨_, _, _, rfl, ?_⟩; (conv => whnf))
        | (refine ⟨_, _, _, _, rfl, ?_⟩; (conv => whnf))
        | (rw [e1]; (conv => whnf))
        | (rw [e2]; (conv => whnf))
        | (refine And.intro (fun c => ?_) (fun c => ?_) <;> (first | (exact absurd c (by decide +kernel)) | (conv => whnf)))
        | fail)
      refine ⟨a, [], rfl, hg, ha, Nat.zero_le _, t_cq_0, fun L hL hcp => ?_⟩
      rw [List.nil_append] at hcp
      have hgL := hL.sp.good hg
      have hokL := hgL.1
      have eG := hL.sp.G hg
      have eK : tK L = tK J := hL.sp.same.K hg
      (conv => whnf)
      repeat' (first
        | ((with_reducible refine @And.intro (vp_in _ _) _ ?_ ?_); (· (first | with_reducible assumption | ((with_reducible refine t_vin ?_); decide) | ((with_reducible refine vp_in_nI ?_ ?_) <;> first | omega | decide) | (simp (disch := omega) only [xl_n, xl_m, nI_dec, nI_sb, nI_add, pk_mul]; (with_reducible refine vp_in_nI ?_ ?_) <;> first | omega | decide))); (conv => whnf))
        | (refine And.intro (by first | with_reducible assumption | exact (show tL _ = _ from rfl) | decide) ?_; (conv => whnf))
        | ((with_reducible refine @And.intro (_ = _) _ ?_ ?_); (· rfl); (conv => whnf))
        | ((with_reducible refine @And.intro (@LE.le Nat _ _ _) _ ?_ ?_); (· (first | exact Nat.zero_le _ | exact Nat.le_of_ble_eq_true rfl | omega)); (conv => whnf))
        | ((with_reducible refine @And.intro (@LT.lt Nat _ _ _) _ ?_ ?_); (· omega); (conv => whnf))
        | ((with_reducible refine @And.intro (∃ _, _ = _) _ ?_ ?_); (· exact ⟨_, rfl⟩); (conv => whnf))
        | ((with_reducible refine @And.intro (_ ∨ _) _ ?_ ?_); (· (first | exact Or.inl rfl | exact Or.inr rfl | exact t_b01 _ | assumption)); (conv => whnf))
        | ((with_reducible refine @And.intro (¬ (_ = _)) _ ?_ ?_); (· first | assumption | (with_reducible assumption)); (conv => whnf))
        | (refine hX _ _ _ _ _ _ ?_; (conv => whnf); fail_if_success show False)
        | (rw [t_si]; (conv => whnf))
        | (refine ⟨_, rfl, ?_⟩; (conv => whnf))
        | (refine ⟨_, _, rfl, ?_⟩; (conv => whnf))
        | (refine ⟨_, _, _, rfl, ?_⟩; (conv => whnf))
        | (refine ⟨_, _, _, _, rfl, ?_⟩; (conv => whnf))
        | (refine And.intro (fun c => ?_) (fun c => ?_) <;> (first | (exact absurd c (by decide +kernel)) | (conv => whnf)))
        | fail)
      refine ⟨36, g_act (tG J) a, g_alive (tK L) (tA L 36), true, rfl, rfl, hgL, by rw [eG]; exact hnd, (by omega), ?_, hcp, fun z => (by cases z), fun M hM hA => ?_⟩
      · rw [t_p_eq (hL.1 12 (by decide) (by decide) (by decide))]
        exact hP
      · rw [eG, eK, hL.A (show t_row 36 from rfl)] at hA
        rw [eG, eK, hL.A (show t_row 36 from rfl)]
        have hA2 : ¬ g_nowc (tG J) a = [] → ∀ k, k < (g_act (tG J) a).length → M 49 k = g_first (g_nowc (tG J) a) k := hA.2 rfl
        have hM2 := hL.sp.tr hM.sp
        have h02 : M 0 0 = nI 0 := ((hM.2 0 (by decide) (by decide)).trans (hL.2 0 (by decide))).trans h01
        (conv => whnf)
        repeat' (first
          | ((with_reducible refine @And.intro (vp_in _ _) _ ?_ ?_); (· (first | with_reducible assumption | ((with_reducible refine t_vin ?_); decide) | ((with_reducible refine vp_in_nI ?_ ?_) <;> first | omega | decide) | (simp (disch := omega) only [xl_n, xl_m, nI_dec, nI_sb, nI_add, pk_mul]; (with_reducible refine vp_in_nI ?_ ?_) <;> first | omega | decide))); (conv => whnf))
          | (refine And.intro (by first | with_reducible assumption | exact (show tL _ = _ from rfl) | decide) ?_; (conv => whnf))
          | ((with_reducible refine @And.intro (_ = _) _ ?_ ?_); (· rfl); (conv => whnf))
          | ((with_reducible refine @And.intro (@LE.le Nat _ _ _) _ ?_ ?_); (· (first | exact Nat.zero_le _ | exact Nat.le_of_ble_eq_true rfl | omega)); (conv => whnf))
          | ((with_reducible refine @And.intro (@LT.lt Nat _ _ _) _ ?_ ?_); (· omega); (conv => whnf))
          | ((with_reducible refine @And.intro (∃ _, _ = _) _ ?_ ?_); (· exact ⟨_, rfl⟩); (conv => whnf))
          | ((with_reducible refine @And.intro (_ ∨ _) _ ?_ ?_); (· (first | exact Or.inl rfl | exact Or.inr rfl | exact t_b01 _ | assumption)); (conv => whnf))
          | ((with_reducible refine @And.intro (¬ (_ = _)) _ ?_ ?_); (· first | assumption | (with_reducible assumption)); (conv => whnf))
          | (refine hX _ _ _ _ _ _ ?_; (conv => whnf); fail_if_success show False)
          | (rw [t_si]; (conv => whnf))
          | (refine ⟨_, rfl, ?_⟩; (conv => whnf))
          | (refine ⟨_, _, rfl, ?_⟩; (conv => whnf))
          | (refine ⟨_, _, _, rfl, ?_⟩; (conv => whnf))
          | (refine ⟨_, _, _, _, rfl, ?_⟩; (conv => whnf))
          | (refine And.intro (fun c => ?_) (fun c => ?_) <;> (first | (exact absurd c (by decide +kernel)) | (conv => whnf)))
          | fail)
        · have c' : ¬ g_ans true (g_nowc (tG J) a) = 0 := by assumption
          rw [g_ans_eq, Bool.not_eq_false, g_is_t] at c'
          exact loop c' 0 (Nat.zero_le _) M hM2 h02 (hM.cp hcp) (hA2 c') (fun j q l hj => by omega)
        · have c' : g_ans true (g_nowc (tG J) a) = 0 := Classical.not_not.mp (by assumption)
          rw [g_ans_eq, g_is_f] at c'
          rw [if_pos c'] at hQ
          exact t_ask hQ hg hM2 h02 xl_n.1
    · rw [q_cast] at hQ
      repeat' (first
        | ((with_reducible refine @And.intro (vp_in _ _) _ ?_ ?_); (· (first | with_reducible assumption | ((with_reducible refine t_vin ?_); decide) | ((with_reducible refine vp_in_nI ?_ ?_) <;> first | omega | decide) | (simp (disch := omega) only [xl_n, xl_m, nI_dec, nI_sb, nI_add, pk_mul]; (with_reducible refine vp_in_nI ?_ ?_) <;> first | omega | decide))); (conv => whnf))
        | (refine And.intro (by first | with_reducible assumption | exact (show tL _ = _ from rfl) | decide) ?_; (conv => whnf))
        | ((with_reducible refine @And.intro (_ = _) _ ?_ ?_); (· rfl); (conv => whnf))
        | ((with_reducible refine @And.intro (@LE.le Nat _ _ _) _ ?_ ?_); (· (first | exact Nat.zero_le _ | exact Nat.le_of_ble_eq_true rfl | omega)); (conv => whnf))
        | ((with_reducible refine @And.intro (@LT.lt Nat _ _ _) _ ?_ ?_); (· omega); (conv => whnf))
        | ((with_reducible refine @And.intro (∃ _, _ = _) _ ?_ ?_); (· exact ⟨_, rfl⟩); (conv => whnf))
        | ((with_reducible refine @And.intro (_ ∨ _) _ ?_ ?_); (· (first | exact Or.inl rfl | exact Or.inr rfl | exact t_b01 _ | assumption)); (conv => whnf))
        | ((with_reducible refine @And.intro (¬ (_ = _)) _ ?_ ?_); (· first | assumption | (with_reducible assumption)); (conv => whnf))
        | (refine hX _ _ _ _ _ _ ?_; (conv => whnf); fail_if_success show False)
        | (rw [t_si]; (conv => whnf))
        | (refine ⟨_, rfl, ?_⟩; (conv => whnf))
        | (refine ⟨_, _, rfl, ?_⟩; (conv => whnf))
        | (refine ⟨_, _, _, rfl, ?_⟩; (conv => whnf))
        | (refine ⟨_, _, _, _, rfl, ?_⟩; (conv => whnf))
        | (rw [e1]; (conv => whnf))
        | (rw [e2]; (conv => whnf))
        | (refine And.intro (fun c => ?_) (fun c => ?_) <;> (first | (exact absurd c (by decide +kernel)) | (conv => whnf)))
        | fail)
      exact t_ref' hQ hg h01 (by simp [f1, f2]) (by decide) rfl rfl
  · rw [q_cast] at hQ
    repeat' (first
      | ((with_reducible refine @And.intro (vp_in _ _) _ ?_ ?_); (· (first | with_reducible assumption | ((with_reducible refine t_vin ?_); decide) | ((with_reducible refine vp_in_nI ?_ ?_) <;> first | omega | decide) | (simp (disch := omega) only [xl_n, xl_m, nI_dec, nI_sb, nI_add, pk_mul]; (with_reducible refine vp_in_nI ?_ ?_) <;> first | omega | decide))); (conv => whnf))
      | (refine And.intro (by first | with_reducible assumption | exact (show tL _ = _ from rfl) | decide) ?_; (conv => whnf))
      | ((with_reducible refine @And.intro (_ = _) _ ?_ ?_); (· rfl); (conv => whnf))
      | ((with_reducible refine @And.intro (@LE.le Nat _ _ _) _ ?_ ?_); (· (first | exact Nat.zero_le _ | exact Nat.le_of_ble_eq_true rfl | omega)); (conv => whnf))
      | ((with_reducible refine @And.intro (@LT.lt Nat _ _ _) _ ?_ ?_); (· omega); (conv => whnf))
      | ((with_reducible refine @And.intro (∃ _, _ = _) _ ?_ ?_); (· exact ⟨_, rfl⟩); (conv => whnf))
      | ((with_reducible refine @And.intro (_ ∨ _) _ ?_ ?_); (· (first | exact Or.inl rfl | exact Or.inr rfl | exact t_b01 _ | assumption)); (conv => whnf))
      | ((with_reducible refine @And.intro (¬ (_ = _)) _ ?_ ?_); (· first | assumption | (with_reducible assumption)); (conv => whnf))
      | (refine hX _ _ _ _ _ _ ?_; (conv => whnf); fail_if_success show False)
      | (rw [t_si]; (conv => whnf))
      | (refine ⟨_, rfl, ?_⟩; (conv => whnf))
      | (refine ⟨_, _, rfl, ?_⟩; (conv => whnf))
      | (refine ⟨_, _, _, rfl, ?_⟩; (conv => whnf))
      | (refine ⟨_, _, _, _, rfl, ?_⟩; (conv => whnf))
      | (rw [e1]; (conv => whnf))
      | (refine And.intro (fun c => ?_) (fun c => ?_) <;> (first | (exact absurd c (by decide +kernel)) | (conv => whnf)))
      | fail)
    exact t_ref' hQ hg h01 (by simp [f1]) (by decide) rfl rfl
theorem ct_X11_cast {Iv : xI} (hI : xm_good Iv) : xm_Ct Iv yX11_cast (ws_ yX11_cast cX11_cast 4 (some .int)) 24 0 0 S_X11_cast := xm_enter (rt := 0) (init := false) (by decide +kernel) rfl (fun h => by cases h) (Or.inl ⟨rfl, rfl⟩) (oX11_cast hI) body_X11_cast
theorem cv_X11_cast {Iv : xI} {own : String} {cc : ByteArray} {fr pc idx : Nat} (hI : xm_good Iv) (hdg : decode cc pc = .ok (.invokevirtual idx, 3)) (hl : xm_ml own idx yX11_cast) (hfr : 24 < fr) : xm_CallOK Iv own cc fr pc (pc + 3) 3 0 0 (xm_this 8 S_X11_cast) := xm_callV 8 hI (ct_X11_cast hI) hdg hl q2469 q2470 q145 q2471 rfl rfl (by decide +kernel) hfr (by decide)
