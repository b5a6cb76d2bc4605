/-! ===== the reference: a family's clauses, what is read ===== -/
set_option maxRecDepth 100000
def p_bd {α β : Type} (r : pR α) (g : α → Nat → pR β) : pR β := match r with
  | .inl e => .inl e
  | .inr (v, k) => g v k
def f_h (F : tI) : Nat := (F 11 0).toNatClampNeg
def f_p (F : tI) : Nat := (F 11 1).toNatClampNeg
def f_a (F : tI) : Nat := (F 11 2).toNatClampNeg
def f_m (F : tI) (a : Nat) : Nat := (F (140 + a) 1).toNatClampNeg
/-- what of the state is told -/
def f_in (F : tI) (b k : Nat) : Prop := (b = 0 ∧ k = 7) ∨ (b = 11 ∧ k < 4) ∨ ((b = 13 ∨ b = 15) ∧ k < 8) ∨ (b = 17 ∧ k < 9) ∨ (∃ h, b = 100 + h ∧ h < f_h F ∧ k < 3) ∨ (∃ p, b = 120 + p ∧ p < f_p F ∧ k < 3) ∨ (∃ a, b = 140 + a ∧ a < f_a F ∧ k < 2 + f_m F a) ∨ (∃ h, b = 160 + h ∧ h < 9 ∧ k < 9)
def t_rea (I F : tI) : Prop := ∀ b k, f_in F b k → I b k = F b k
def t_fok (F : tI) : Prop := F 11 0 = nI (f_h F) ∧ f_h F ≤ 9 ∧ F 11 1 = nI (f_p F) ∧ f_p F ≤ 8 ∧ F 11 2 = nI (f_a F) ∧ f_a F ≤ 6
theorem t_rea.h {I F : tI} (h : t_rea I F) : I 11 0 = F 11 0 := h _ _ (Or.inr (Or.inl ⟨rfl, by decide⟩))
theorem t_rea.p {I F : tI} (h : t_rea I F) : I 11 1 = F 11 1 := h _ _ (Or.inr (Or.inl ⟨rfl, by decide⟩))
theorem t_rea.a {I F : tI} (h : t_rea I F) : I 11 2 = F 11 2 := h _ _ (Or.inr (Or.inl ⟨rfl, by decide⟩))
/-- what is read is changed, and the reading -/
def t_rr (b : Nat) : Prop := b = 11 ∨ b = 13 ∨ b = 15 ∨ b = 17 ∨ (100 ≤ b ∧ b < 109) ∨ (120 ≤ b ∧ b < 128) ∨ (140 ≤ b ∧ b < 146) ∨ (160 ≤ b ∧ b < 169)
def t_rf (I J : tI) : Prop := (∀ b, b ≠ 0 → ¬ t_rr b → J b = I b) ∧ ∀ k, k ≠ 4 → k ≠ 5 → k ≠ 6 → k ≠ 7 → J 0 k = I 0 k
theorem t_rf.rf {I : tI} : t_rf I I := ⟨fun _ _ _ => rfl, fun _ _ _ _ _ => rfl⟩
theorem t_rf.tr {I J L : tI} (h : t_rf I J) (h2 : t_rf J L) : t_rf I L := ⟨fun b a c => (h2.1 b a c).trans (h.1 b a c), fun k a b c d => (h2.2 k a b c d).trans (h.2 k a b c d)⟩
theorem t_pf.r {I J : tI} (h : t_pf I J) : t_rf I J := ⟨fun b a _ => h.1 b a, fun k a b c _ => h.2 k a b c⟩
theorem t_rf.u {I : tI} {b k : Nat} {v : Int32} (h : t_rr b) : t_rf I (xm_u2 I b k v) := ⟨fun b' _ h2 => funext fun j => xm_u2_ne (fun e => h2 (by rw [e]; exact h)) j, fun j _ _ _ _ => xm_u2_ne (fun e => by unfold t_rr at h; omega) j⟩
theorem t_rf.tx {I J : tI} {f : Nat → Int32} {n : Nat} (h : t_rf I J) (ht : t_tx I f n) : t_tx J f n := ⟨(h.2 2 (by decide) (by decide) (by decide) (by decide)).trans ht.1, ht.2.1, fun k hk => by rw [h.1 9 (by decide) (by unfold t_rr; omega)]; exact ht.2.2 k hk⟩
theorem f_in_0 {F : tI} {b k : Nat} (h : f_in F b k) (hb : b = 0) : k = 7 := by
  rcases h with h | h | h | h | ⟨_, h⟩ | ⟨_, h⟩ | ⟨_, h⟩ | ⟨_, h⟩ <;> omega
theorem t_pf.d {I J F : tI} (h : t_pf I J) (hr : t_rea I F) : t_rea J F := fun b k hk => by
  by_cases hb : b = 0
  · have := f_in_0 hk hb
    subst this
    rw [hb, h.2 7 (by decide) (by decide) (by decide)]
    exact hb ▸ hr b 7 hk
  · rw [h.1 b hb]
    exact hr b k hk
/-- a write that leaves the counts -/
theorem t_rea.u {I F : tI} {b k : Nat} {v : Int32} (h : t_rea I F) (hb : b ≠ 11 ∨ k = 3) (ha : ¬ (140 ≤ b ∧ b < 146)) (hf : t_fok F) : t_rea (xm_u2 I b k v) (xm_u2 F b k v) := fun b' k' hk => by
  by_cases q : b' = b ∧ k' = k
  · unfold xm_u2
    rw [if_pos q, if_pos q]
  · have e : ∀ X : tI, xm_u2 X b k v b' k' = X b' k' := fun X => if_neg q
    rw [e, e]
    refine h b' k' ?_
    have o : ∀ j, j < 3 → xm_u2 F b k v 11 j = F 11 j := fun j hj => if_neg (by omega)
    have eh : f_h (xm_u2 F b k v) = f_h F := by unfold f_h; rw [o 0 (by decide)]
    have ep : f_p (xm_u2 F b k v) = f_p F := by unfold f_p; rw [o 1 (by decide)]
    have ea : f_a (xm_u2 F b k v) = f_a F := by unfold f_a; rw [o 2 (by decide)]
    unfold f_in at hk ⊢
    rw [eh, ep, ea] at hk
    rcases hk with hk | hk | hk | hk | hk | hk | ⟨a, h1, h2, h3⟩ | hk
    · exact Or.inl hk
    · exact Or.inr (Or.inl hk)
    · exact Or.inr (Or.inr (Or.inl hk))
    · exact Or.inr (Or.inr (Or.inr (Or.inl hk)))
    · exact Or.inr (Or.inr (Or.inr (Or.inr (Or.inl hk))))
    · exact Or.inr (Or.inr (Or.inr (Or.inr (Or.inr (Or.inl hk)))))
    · refine Or.inr (Or.inr (Or.inr (Or.inr (Or.inr (Or.inr (Or.inl ⟨a, h1, h2, ?_⟩))))))
      have h6 : a < 6 := Nat.lt_of_lt_of_le h2 hf.2.2.2.2.2
      have : f_m (xm_u2 F b k v) a = f_m F a := by
        unfold f_m
        rw [show xm_u2 F b k v (140 + a) 1 = F (140 + a) 1 from if_neg (by omega)]
      rw [← this]
      exact h3
    · exact Or.inr (Or.inr (Or.inr (Or.inr (Or.inr (Or.inr (Or.inr hk))))))
abbrev bX11_handHere_0 : List xE := [(.aload_n 0, 1, 0, 0, 0), (.iconst 0, 2, 0, 0, 0), (.aload_n 0, 3, 0, 0, 0), (.getfield 20, 6, 8, 11, 1), (.iconst 0, 7, 0, 0, 0), (.iaload, 8, 0, 0, 0), (.iconst 1, 9, 0, 0, 0), (.isub, 10, 0, 0, 0), (.invokevirtual 202, 13, 0, 0, 9), (.ireturn, 14, 0, 0, 0)]
abbrev kX11_handHere : List (Nat × List xE) := [(0, bX11_handHere_0)]
abbrev lX11_handHere : List (Nat × Nat × Nat × xS) := [(3, 0, 0, xm_this 8 S_X11_number)]
theorem oX11_handHere_0 {Iv : xI} (hI : xm_good Iv)  : xm_okb Iv RX11 cX11_handHere false 4 lX11_handHere bX11_handHere_0 0 := xo_0 dX11_handHere_0 rfl trivial (xo_0 dX11_handHere_1 rfl trivial (xo_0 dX11_handHere_2 rfl trivial (xo_1 dX11_handHere_3 rfl (xm_fg_of (Or.inl q1966) (by decide) rfl (by decide) rfl rfl (Or.inl rfl) rfl) (xo_0 dX11_handHere_6 rfl trivial (xo_0 dX11_handHere_7 rfl trivial (xo_0 dX11_handHere_8 rfl trivial (xo_0 dX11_handHere_9 rfl trivial (xo_c rfl (cv_X11_number hI dX11_handHere_10 (Or.inl q2190) (by decide)) (xo_0 dX11_handHere_13 rfl trivial (xo_n))))))))))
theorem oX11_handHere {Iv : xI} (hI : xm_good Iv)  : ∀ q ∈ kX11_handHere, xm_okb Iv RX11 cX11_handHere false 4 lX11_handHere q.2 q.1 := by
  intro q hq
  simp only [List.mem_cons, List.not_mem_nil, or_false] at hq
  subst hq
  exact oX11_handHere_0 hI  
def S_X11_handHere : xS := tU fun as I Q => as = [.ref 0] ∧ ∃ f n, t_tx I f n ∧ ∃ p, t_ps I n p ∧ ∀ J, t_pf I J → t_ps J n (p_st (p_go p (p_number f n (nI 0) (I 11 0 - nI 1)))) → Q (some (.int (p_v (p_go p (p_number f n (nI 0) (I 11 0 - nI 1)))))) J
theorem body_X11_handHere : xm_Body 1 0 0 0 [] lX11_handHere kX11_handHere S_X11_handHere := by
  intro X avs w Q QX hX0 hS
  have hG := xm_go [] hX0
  have hX := xm_go [] hX0
  clear hX0
  obtain ⟨I, rfl, rfl, f, n, ht, p, hp, hQ⟩ := hS
  refine ⟨rfl, ?_⟩
  repeat' (first
    | ((with_reducible refine @And.intro (vp_in _ _) _ ?_ ?_); (· (first | with_reducible assumption | ((with_reducible refine t_vin ?_); decide) | ((with_reducible refine vp_in_nI ?_ ?_) <;> first | omega | decide) | (simp (disch := omega) only [xl_n, xl_m, nI_dec, nI_sb, nI_add, pk_mul]; (with_reducible refine vp_in_nI ?_ ?_) <;> first | omega | decide))); (conv => whnf))
    | (refine And.intro (by first | with_reducible assumption | exact (show tL _ = _ from rfl) | decide) ?_; (conv => whnf))
    | ((with_reducible refine @And.intro (_ = _) _ ?_ ?_); (· rfl); (conv => whnf))
    | ((with_reducible refine @And.intro (@LE.le Nat _ _ _) _ ?_ ?_); (· (first | exact Nat.zero_le _ | exact Nat.le_of_ble_eq_true rfl | omega)); (conv => whnf))
    | ((with_reducible refine @And.intro (@LT.lt Nat _ _ _) _ ?_ ?_); (· omega); (conv => whnf))
    | ((with_reducible refine @And.intro (∃ _, _ = _) _ ?_ ?_); (· exact ⟨_, rfl⟩); (conv => whnf))
    | ((with_reducible refine @And.intro (_ ∨ _) _ ?_ ?_); (· (first | exact Or.inl rfl | exact Or.inr rfl | exact t_b01 _ | assumption)); (conv => whnf))
    | ((with_reducible refine @And.intro (¬ (_ = _)) _ ?_ ?_); (· first | assumption | (with_reducible assumption)); (conv => whnf))
    | (refine hX _ _ _ _ _ _ ?_; (conv => whnf); fail_if_success show False)
    | (rw [t_si]; (conv => whnf))
    | (refine ⟨_, rfl, ?_⟩; (conv => whnf))
    | (refine ⟨_, _, rfl, ?_⟩; (conv => whnf))
    | (refine ⟨_, _, _, rfl, ?_⟩; (conv => whnf))
    | (refine ⟨_, _, _, _, rfl, ?_⟩; (conv => whnf))
    | (refine ⟨_, _, (by with_reducible assumption), ?_⟩; (conv => whnf))
    | (refine ⟨_, (by first | with_reducible assumption | exact rfl), ?_⟩; (conv => whnf))
    | (refine And.intro (fun c => ?_) (fun c => ?_) <;> (first | (exact absurd c (by decide +kernel)) | (conv => whnf)))
    | fail)
  intro J hJ hps
  (conv => whnf)
  repeat' (first
    | ((with_reducible refine @And.intro (vp_in _ _) _ ?_ ?_); (· (first | with_reducible assumption | ((with_reducible refine t_vin ?_); decide) | ((with_reducible refine vp_in_nI ?_ ?_) <;> first | omega | decide) | (simp (disch := omega) only [xl_n, xl_m, nI_dec, nI_sb, nI_add, pk_mul]; (with_reducible refine vp_in_nI ?_ ?_) <;> first | omega | decide))); (conv => whnf))
    | (refine And.intro (by first | with_reducible assumption | exact (show tL _ = _ from rfl) | decide) ?_; (conv => whnf))
    | ((with_reducible refine @And.intro (_ = _) _ ?_ ?_); (· rfl); (conv => whnf))
    | ((with_reducible refine @And.intro (@LE.le Nat _ _ _) _ ?_ ?_); (· (first | exact Nat.zero_le _ | exact Nat.le_of_ble_eq_true rfl | omega)); (conv => whnf))
    | ((with_reducible refine @And.intro (@LT.lt Nat _ _ _) _ ?_ ?_); (· omega); (conv => whnf))
    | ((with_reducible refine @And.intro (∃ _, _ = _) _ ?_ ?_); (· exact ⟨_, rfl⟩); (conv => whnf))
    | ((with_reducible refine @And.intro (_ ∨ _) _ ?_ ?_); (· (first | exact Or.inl rfl | exact Or.inr rfl | exact t_b01 _ | assumption)); (conv => whnf))
    | ((with_reducible refine @And.intro (¬ (_ = _)) _ ?_ ?_); (· first | assumption | (with_reducible assumption)); (conv => whnf))
    | (refine hX _ _ _ _ _ _ ?_; (conv => whnf); fail_if_success show False)
    | (rw [t_si]; (conv => whnf))
    | (refine ⟨_, rfl, ?_⟩; (conv => whnf))
    | (refine ⟨_, _, rfl, ?_⟩; (conv => whnf))
    | (refine ⟨_, _, _, rfl, ?_⟩; (conv => whnf))
    | (refine ⟨_, _, _, _, rfl, ?_⟩; (conv => whnf))
    | (refine And.intro (fun c => ?_) (fun c => ?_) <;> (first | (exact absurd c (by decide +kernel)) | (conv => whnf)))
    | fail)
  clear hX hG
  simp (disch := omega) only [xl_n, xl_m, nI_dec, nI_sb, xl_0, xl_1, tW_i, t_bn0, t_bn1, Classical.not_not, t_lt, nI_add, nI_1, pk_mul, nI_clamp, t_si, nI_eq, nI_leI, nM_ne, nM_ne] at *
  exact hQ J hJ hps
theorem ct_X11_handHere {Iv : xI} (hI : xm_good Iv) : xm_Ct Iv yX11_handHere (ws_ yX11_handHere cX11_handHere 1 (some .int)) 4 0 0 S_X11_handHere := xm_enter (rt := 0) (init := false) (by decide +kernel) rfl (fun h => by cases h) (Or.inl ⟨rfl, rfl⟩) (oX11_handHere hI) body_X11_handHere
theorem cv_X11_handHere {Iv : xI} {own : String} {cc : ByteArray} {fr pc idx : Nat} (hI : xm_good Iv) (hdg : decode cc pc = .ok (.invokevirtual idx, 3)) (hl : xm_ml own idx yX11_handHere) (hfr : 4 < fr) : xm_CallOK Iv own cc fr pc (pc + 3) 1 0 0 (xm_this 8 S_X11_handHere) := xm_callV 8 hI (ct_X11_handHere hI) hdg hl q2216 qs69 q145 q2217 rfl rfl (by decide +kernel) hfr (by decide)
abbrev bX11_puppetHere_0 : List xE := [(.aload_n 0, 1, 0, 0, 0), (.iconst 0, 2, 0, 0, 0), (.aload_n 0, 3, 0, 0, 0), (.getfield 20, 6, 8, 11, 1), (.iconst 1, 7, 0, 0, 0), (.iaload, 8, 0, 0, 0), (.iconst 1, 9, 0, 0, 0), (.isub, 10, 0, 0, 0), (.invokevirtual 202, 13, 0, 0, 9), (.ireturn, 14, 0, 0, 0)]
abbrev kX11_puppetHere : List (Nat × List xE) := [(0, bX11_puppetHere_0)]
abbrev lX11_puppetHere : List (Nat × Nat × Nat × xS) := [(3, 0, 0, xm_this 8 S_X11_number)]
theorem oX11_puppetHere_0 {Iv : xI} (hI : xm_good Iv)  : xm_okb Iv RX11 cX11_puppetHere false 4 lX11_puppetHere bX11_puppetHere_0 0 := xo_0 dX11_puppetHere_0 rfl trivial (xo_0 dX11_puppetHere_1 rfl trivial (xo_0 dX11_puppetHere_2 rfl trivial (xo_1 dX11_puppetHere_3 rfl (xm_fg_of (Or.inl q1966) (by decide) rfl (by decide) rfl rfl (Or.inl rfl) rfl) (xo_0 dX11_puppetHere_6 rfl trivial (xo_0 dX11_puppetHere_7 rfl trivial (xo_0 dX11_puppetHere_8 rfl trivial (xo_0 dX11_puppetHere_9 rfl trivial (xo_c rfl (cv_X11_number hI dX11_puppetHere_10 (Or.inl q2190) (by decide)) (xo_0 dX11_puppetHere_13 rfl trivial (xo_n))))))))))
theorem oX11_puppetHere {Iv : xI} (hI : xm_good Iv)  : ∀ q ∈ kX11_puppetHere, xm_okb Iv RX11 cX11_puppetHere false 4 lX11_puppetHere q.2 q.1 := by
  intro q hq
  simp only [List.mem_cons, List.not_mem_nil, or_false] at hq
  subst hq
  exact oX11_puppetHere_0 hI  
def S_X11_puppetHere : xS := tU fun as I Q => as = [.ref 0] ∧ ∃ f n, t_tx I f n ∧ ∃ p, t_ps I n p ∧ ∀ J, t_pf I J → t_ps J n (p_st (p_go p (p_number f n (nI 0) (I 11 1 - nI 1)))) → Q (some (.int (p_v (p_go p (p_number f n (nI 0) (I 11 1 - nI 1)))))) J
theorem body_X11_puppetHere : xm_Body 1 0 0 0 [] lX11_puppetHere kX11_puppetHere S_X11_puppetHere := by
  intro X avs w Q QX hX0 hS
  have hG := xm_go [] hX0
  have hX := xm_go [] hX0
  clear hX0
  obtain ⟨I, rfl, rfl, f, n, ht, p, hp, hQ⟩ := hS
  refine ⟨rfl, ?_⟩
  repeat' (first
    | ((with_reducible refine @And.intro (vp_in _ _) _ ?_ ?_); (· (first | with_reducible assumption | ((with_reducible refine t_vin ?_); decide) | ((with_reducible refine vp_in_nI ?_ ?_) <;> first | omega | decide) | (simp (disch := omega) only [xl_n, xl_m, nI_dec, nI_sb, nI_add, pk_mul]; (with_reducible refine vp_in_nI ?_ ?_) <;> first | omega | decide))); (conv => whnf))
    | (refine And.intro (by first | with_reducible assumption | exact (show tL _ = _ from rfl) | decide) ?_; (conv => whnf))
    | ((with_reducible refine @And.intro (_ = _) _ ?_ ?_); (· rfl); (conv => whnf))
    | ((with_reducible refine @And.intro (@LE.le Nat _ _ _) _ ?_ ?_); (· (first | exact Nat.zero_le _ | exact Nat.le_of_ble_eq_true rfl | omega)); (conv => whnf))
    | ((with_reducible refine @And.intro (@LT.lt Nat _ _ _) _ ?_ ?_); (· omega); (conv => whnf))
    | ((with_reducible refine @And.intro (∃ _, _ = _) _ ?_ ?_); (· exact ⟨_, rfl⟩); (conv => whnf))
    | ((with_reducible refine @And.intro (_ ∨ _) _ ?_ ?_); (· (first | exact Or.inl rfl | exact Or.inr rfl | exact t_b01 _ | assumption)); (conv => whnf))
    | ((with_reducible refine @And.intro (¬ (_ = _)) _ ?_ ?_); (· first | assumption | (with_reducible assumption)); (conv => whnf))
    | (refine hX _ _ _ _ _ _ ?_; (conv => whnf); fail_if_success show False)
    | (rw [t_si]; (conv => whnf))
    | (refine ⟨_, rfl, ?_⟩; (conv => whnf))
    | (refine ⟨_, _, rfl, ?_⟩; (conv => whnf))
    | (refine ⟨_, _, _, rfl, ?_⟩; (conv => whnf))
    | (refine ⟨_, _, _, _, rfl, ?_⟩; (conv => whnf))
    | (refine ⟨_, _, (by with_reducible assumption), ?_⟩; (conv => whnf))
    | (refine ⟨_, (by first | with_reducible assumption | exact rfl), ?_⟩; (conv => whnf))
    | (refine And.intro (fun c => ?_) (fun c => ?_) <;> (first | (exact absurd c (by decide +kernel)) | (conv => whnf)))
    | fail)
  intro J hJ hps
  (conv => whnf)
  repeat' (first
    | ((with_reducible refine @And.intro (vp_in _ _) _ ?_ ?_); (· (first | with_reducible assumption | ((with_reducible refine t_vin ?_); decide) | ((with_reducible refine vp_in_nI ?_ ?_) <;> first | omega | decide) | (simp (disch := omega) only [xl_n, xl_m, nI_dec, nI_sb, nI_add, pk_mul]; (with_reducible refine vp_in_nI ?_ ?_) <;> first | omega | decide))); (conv => whnf))
    | (refine And.intro (by first | with_reducible assumption | exact (show tL _ = _ from rfl) | decide) ?_; (conv => whnf))
    | ((with_reducible refine @And.intro (_ = _) _ ?_ ?_); (· rfl); (conv => whnf))
    | ((with_reducible refine @And.intro (@LE.le Nat _ _ _) _ ?_ ?_); (· (first | exact Nat.zero_le _ | exact Nat.le_of_ble_eq_true rfl | omega)); (conv => whnf))
    | ((with_reducible refine @And.intro (@LT.lt Nat _ _ _) _ ?_ ?_); (· omega); (conv => whnf))
    | ((with_reducible refine @And.intro (∃ _, _ = _) _ ?_ ?_); (· exact ⟨_, rfl⟩); (conv => whnf))
    | ((with_reducible refine @And.intro (_ ∨ _) _ ?_ ?_); (· (first | exact Or.inl rfl | exact Or.inr rfl | exact t_b01 _ | assumption)); (conv => whnf))
    | ((with_reducible refine @And.intro (¬ (_ = _)) _ ?_ ?_); (· first | assumption | (with_reducible assumption)); (conv => whnf))
    | (refine hX _ _ _ _ _ _ ?_; (conv => whnf); fail_if_success show False)
    | (rw [t_si]; (conv => whnf))
    | (refine ⟨_, rfl, ?_⟩; (conv => whnf))
    | (refine ⟨_, _, rfl, ?_⟩; (conv => whnf))
    | (refine ⟨_, _, _, rfl, ?_⟩; (conv => whnf))
    | (refine ⟨_, _, _, _, rfl, ?_⟩; (conv => whnf))
    | (refine And.intro (fun c => ?_) (fun c => ?_) <;> (first | (exact absurd c (by decide +kernel)) | (conv => whnf)))
    | fail)
  clear hX hG
  simp (disch := omega) only [xl_n, xl_m, nI_dec, nI_sb, xl_0, xl_1, tW_i, t_bn0, t_bn1, Classical.not_not, t_lt, nI_add, nI_1, pk_mul, nI_clamp, t_si, nI_eq, nI_leI, nM_ne, nM_ne] at *
  exact hQ J hJ hps
theorem ct_X11_puppetHere {Iv : xI} (hI : xm_good Iv) : xm_Ct Iv yX11_puppetHere (ws_ yX11_puppetHere cX11_puppetHere 1 (some .int)) 4 0 0 S_X11_puppetHere := xm_enter (rt := 0) (init := false) (by decide +kernel) rfl (fun h => by cases h) (Or.inl ⟨rfl, rfl⟩) (oX11_puppetHere hI) body_X11_puppetHere
theorem cv_X11_puppetHere {Iv : xI} {own : String} {cc : ByteArray} {fr pc idx : Nat} (hI : xm_good Iv) (hdg : decode cc pc = .ok (.invokevirtual idx, 3)) (hl : xm_ml own idx yX11_puppetHere) (hfr : 4 < fr) : xm_CallOK Iv own cc fr pc (pc + 3) 1 0 0 (xm_this 8 S_X11_puppetHere) := xm_callV 8 hI (ct_X11_puppetHere hI) hdg hl q2208 qs67 q145 q2209 rfl rfl (by decide +kernel) hfr (by decide)
