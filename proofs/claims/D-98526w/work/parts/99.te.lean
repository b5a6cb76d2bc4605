/-! ===== terms of a law ===== -/
set_option maxRecDepth 100000
theorem t_div_nM (u : Int32) : u / nM = -u := by
  apply Int32.toBitVec_inj.mp
  rw [Int32.toBitVec_div, Int32.toBitVec_neg, show nM.toBitVec = -1#32 by decide +kernel, BitVec.sdiv_neg (by decide), BitVec.sdiv_one]
def c_tg (z : Nat) : Nat := match z with
  | 2 => 2
  | 3 => 3
  | 4 => 4
  | 5 => 15
  | 6 => 16
  | 7 => 13
  | _ => 14
/-- the term at a has the codes L -/
def c_rep : Nat → xW → Nat → List lC → Prop
  | 0, _, _, _ => False
  | d + 1, w, a, L => 1000 ≤ a ∧ ((∃ v, w.1 a = some (6, 1) ∧ w.2.1 a 0 = v ∧ L = [(nI 0, v)]) ∨ (∃ j, j < 9 ∧ w.1 a = some (5, 1) ∧ w.2.1 a 0 = nI j ∧ L = [(nI 1, nI j)]) ∨
    ∃ z A B x y, 2 ≤ z ∧ z ≤ 8 ∧ w.1 a = some (c_tg z, 2) ∧ w.2.2.1 a 0 = some x ∧ w.2.2.1 a 1 = some y ∧ c_rep d w x A ∧ c_rep d w y B ∧ L = A ++ B ++ [(nI z, nI 0)])
theorem c_rep_tr : ∀ {d : Nat} {w : xW} {a : Nat} {L : List lC}, c_rep d w a L → l_tr d L
  | 0, _, _, _, h => h.elim
  | d + 1, w, a, L, ⟨_, h⟩ => by
    rcases h with ⟨v, _, _, h⟩ | ⟨j, hj, _, _, h⟩ | ⟨z, A, B, x, y, h1, h2, _, _, _, h3, h4, h⟩
    · exact Or.inl ⟨v, h⟩
    · exact Or.inr (Or.inl ⟨j, hj, h⟩)
    · exact Or.inr (Or.inr ⟨z, A, B, h1, h2, c_rep_tr h3, c_rep_tr h4, h⟩)
theorem c_rep_eq : ∀ {d : Nat} {w w' : xW} {a : Nat} {L : List lC}, (∀ a, 1000 ≤ a → w.1 a ≠ none → w'.1 a = w.1 a ∧ w'.2.1 a = w.2.1 a ∧ w'.2.2.1 a = w.2.2.1 a) → c_rep d w a L → c_rep d w' a L
  | 0, _, _, _, _, _, h => h.elim
  | d + 1, w, w', a, L, he, ⟨ha, h⟩ => by
    have hne : w.1 a ≠ none := by
      rcases h with ⟨v, h, _⟩ | ⟨j, hj, h, _⟩ | ⟨z, A, B, x, y, h1, h2, h, _⟩ <;> (rw [h]; exact fun z => by cases z)
    obtain ⟨e1, e2, e3⟩ := he a ha hne
    refine ⟨ha, ?_⟩
    rw [e1, e2, e3]
    rcases h with h | h | ⟨z, A, B, x, y, h1, h2, h3, h4, h5, h6, h7, h8⟩
    · exact Or.inl h
    · exact Or.inr (Or.inl h)
    · exact Or.inr (Or.inr ⟨z, A, B, x, y, h1, h2, h3, h4, h5, c_rep_eq he h6, c_rep_eq he h7, h8⟩)
/-- at least so deep -/
theorem c_rep_m : ∀ {d : Nat} {w : xW} {a : Nat} {L : List lC}, c_rep d w a L → ∀ m, L.length ≤ m → c_rep m w a L
  | 0, _, _, _, h => h.elim
  | d + 1, w, a, L, h => by
    intro m hm
    obtain ⟨m, rfl⟩ : ∃ m', m = m' + 1 := ⟨m - 1, by have := l_tr_len (c_rep_tr h); omega⟩
    obtain ⟨ha, h⟩ := h
    refine ⟨ha, ?_⟩
    rcases h with h | h | ⟨z, A, B, x, y, h1, h2, h3, h4, h5, h6, h7, rfl⟩
    · exact Or.inl h
    · exact Or.inr (Or.inl h)
    · simp at hm
      have l1 := l_tr_len (c_rep_tr h6)
      have l2 := l_tr_len (c_rep_tr h7)
      exact Or.inr (Or.inr ⟨z, A, B, x, y, h1, h2, h3, h4, h5, c_rep_m h6 m (by omega), c_rep_m h7 m (by omega), rfl⟩)
abbrev bX5_with_0 : List xE := [(.iload_n 1, 1, 0, 0, 0), (.iload_n 2, 2, 0, 0, 0), (.iadd, 3, 0, 0, 0), (.ireturn, 4, 0, 0, 0)]
abbrev kX5_with : List (Nat × List xE) := [(0, bX5_with_0)]
abbrev lX5_with : List (Nat × Nat × Nat × xS) := []
theorem oX5_with_0  : xm_okb cI RX5 cX5_with false 1 lX5_with bX5_with_0 0 := xo_0 dX5_with_0 rfl trivial (xo_0 dX5_with_1 rfl trivial (xo_0 dX5_with_2 rfl trivial (xo_0 dX5_with_3 rfl trivial (xo_n))))
theorem oX5_with  : ∀ q ∈ kX5_with, xm_okb cI RX5 cX5_with false 1 lX5_with q.2 q.1 := by
  intro q hq
  simp only [List.mem_cons, List.not_mem_nil, or_false] at hq
  subst hq
  exact oX5_with_0  
def S_X5_with : xS := fun as w Q _ => ∃ a u v, as = [.ref a, .int u, .int v] ∧ Q (some (.int (t_by (nI 2) u v))) w
theorem body_X5_with : xm_Body 3 0 0 0 [] lX5_with kX5_with S_X5_with := by
  intro X avs w Q QX hX0 hS
  have hG := xm_go [] hX0
  have hX := xm_go [] hX0
  clear hX0
  obtain ⟨a, u, v, rfl, hQ⟩ := hS
  refine ⟨rfl, ?_⟩
  repeat' (first
    | ((with_reducible refine @And.intro (vp_in _ _) _ ?_ ?_); (· (first | with_reducible assumption | ((with_reducible refine t_vin ?_); decide) | ((with_reducible refine vp_in_nI ?_ ?_) <;> first | omega | decide) | (simp (disch := omega) only [xl_n, xl_m, nI_dec, nI_sb, nI_add, pk_mul]; (with_reducible refine vp_in_nI ?_ ?_) <;> first | omega | decide))); (conv => whnf))
    | (refine And.intro (by first | with_reducible assumption | exact (show cL _ _ = _ from rfl) | decide) ?_; (conv => whnf))
    | ((with_reducible refine @And.intro (_ = _) _ ?_ ?_); (· rfl); (conv => whnf))
    | ((with_reducible refine @And.intro (@LE.le Nat _ _ _) _ ?_ ?_); (· (first | exact Nat.zero_le _ | exact Nat.le_of_ble_eq_true rfl | omega)); (conv => whnf))
    | ((with_reducible refine @And.intro (@LT.lt Nat _ _ _) _ ?_ ?_); (· omega); (conv => whnf))
    | ((with_reducible refine @And.intro (∃ _, _ = _) _ ?_ ?_); (· exact ⟨_, rfl⟩); (conv => whnf))
    | ((with_reducible refine @And.intro (_ ∨ _) _ ?_ ?_); (· (first | exact Or.inl rfl | exact Or.inr rfl | exact t_b01 _ | assumption)); (conv => whnf))
    | ((with_reducible refine @And.intro (¬ (_ = _)) _ ?_ ?_); (· first | assumption | (with_reducible assumption)); (conv => whnf))
    | (refine hX _ _ _ _ _ _ ?_; (conv => whnf); fail_if_success show False)
    | (rw [c_si]; (conv => whnf))
    | (refine ⟨_, rfl, ?_⟩; (conv => whnf))
    | (refine ⟨_, _, rfl, ?_⟩; (conv => whnf))
    | (refine ⟨_, _, _, rfl, ?_⟩; (conv => whnf))
    | (refine ⟨_, _, _, _, rfl, ?_⟩; (conv => whnf))
    | (refine And.intro (fun c => ?_) (fun c => ?_) <;> (first | (exact absurd c (by decide +kernel)) | (conv => whnf)))
    | fail)
  exact t_q hQ (t_by2 _ _).symm
theorem ct_X5_with : xm_Ct cI yX5_with (ws_ yX5_with cX5_with 3 (some .int)) 1 0 0 S_X5_with := xm_enter (rt := 0) (init := false) (by decide +kernel) rfl (fun h => by cases h) (Or.inl ⟨rfl, rfl⟩) (oX5_with) body_X5_with

abbrev bX6_with_0 : List xE := [(.iload_n 1, 1, 0, 0, 0), (.iload_n 2, 2, 0, 0, 0), (.isub, 3, 0, 0, 0), (.ireturn, 4, 0, 0, 0)]
abbrev kX6_with : List (Nat × List xE) := [(0, bX6_with_0)]
abbrev lX6_with : List (Nat × Nat × Nat × xS) := []
theorem oX6_with_0  : xm_okb cI RX6 cX6_with false 1 lX6_with bX6_with_0 0 := xo_0 dX6_with_0 rfl trivial (xo_0 dX6_with_1 rfl trivial (xo_0 dX6_with_2 rfl trivial (xo_0 dX6_with_3 rfl trivial (xo_n))))
theorem oX6_with  : ∀ q ∈ kX6_with, xm_okb cI RX6 cX6_with false 1 lX6_with q.2 q.1 := by
  intro q hq
  simp only [List.mem_cons, List.not_mem_nil, or_false] at hq
  subst hq
  exact oX6_with_0  
def S_X6_with : xS := fun as w Q _ => ∃ a u v, as = [.ref a, .int u, .int v] ∧ Q (some (.int (t_by (nI 3) u v))) w
theorem body_X6_with : xm_Body 3 0 0 0 [] lX6_with kX6_with S_X6_with := by
  intro X avs w Q QX hX0 hS
  have hG := xm_go [] hX0
  have hX := xm_go [] hX0
  clear hX0
  obtain ⟨a, u, v, rfl, hQ⟩ := hS
  refine ⟨rfl, ?_⟩
  repeat' (first
    | ((with_reducible refine @And.intro (vp_in _ _) _ ?_ ?_); (· (first | with_reducible assumption | ((with_reducible refine t_vin ?_); decide) | ((with_reducible refine vp_in_nI ?_ ?_) <;> first | omega | decide) | (simp (disch := omega) only [xl_n, xl_m, nI_dec, nI_sb, nI_add, pk_mul]; (with_reducible refine vp_in_nI ?_ ?_) <;> first | omega | decide))); (conv => whnf))
    | (refine And.intro (by first | with_reducible assumption | exact (show cL _ _ = _ from rfl) | decide) ?_; (conv => whnf))
    | ((with_reducible refine @And.intro (_ = _) _ ?_ ?_); (· rfl); (conv => whnf))
    | ((with_reducible refine @And.intro (@LE.le Nat _ _ _) _ ?_ ?_); (· (first | exact Nat.zero_le _ | exact Nat.le_of_ble_eq_true rfl | omega)); (conv => whnf))
    | ((with_reducible refine @And.intro (@LT.lt Nat _ _ _) _ ?_ ?_); (· omega); (conv => whnf))
    | ((with_reducible refine @And.intro (∃ _, _ = _) _ ?_ ?_); (· exact ⟨_, rfl⟩); (conv => whnf))
    | ((with_reducible refine @And.intro (_ ∨ _) _ ?_ ?_); (· (first | exact Or.inl rfl | exact Or.inr rfl | exact t_b01 _ | assumption)); (conv => whnf))
    | ((with_reducible refine @And.intro (¬ (_ = _)) _ ?_ ?_); (· first | assumption | (with_reducible assumption)); (conv => whnf))
    | (refine hX _ _ _ _ _ _ ?_; (conv => whnf); fail_if_success show False)
    | (rw [c_si]; (conv => whnf))
    | (refine ⟨_, rfl, ?_⟩; (conv => whnf))
    | (refine ⟨_, _, rfl, ?_⟩; (conv => whnf))
    | (refine ⟨_, _, _, rfl, ?_⟩; (conv => whnf))
    | (refine ⟨_, _, _, _, rfl, ?_⟩; (conv => whnf))
    | (refine And.intro (fun c => ?_) (fun c => ?_) <;> (first | (exact absurd c (by decide +kernel)) | (conv => whnf)))
    | fail)
  exact t_q hQ (t_by3 _ _).symm
theorem ct_X6_with : xm_Ct cI yX6_with (ws_ yX6_with cX6_with 3 (some .int)) 1 0 0 S_X6_with := xm_enter (rt := 0) (init := false) (by decide +kernel) rfl (fun h => by cases h) (Or.inl ⟨rfl, rfl⟩) (oX6_with) body_X6_with

abbrev bX7_with_0 : List xE := [(.iload_n 1, 1, 0, 0, 0), (.iload_n 2, 2, 0, 0, 0), (.imul, 3, 0, 0, 0), (.ireturn, 4, 0, 0, 0)]
abbrev kX7_with : List (Nat × List xE) := [(0, bX7_with_0)]
abbrev lX7_with : List (Nat × Nat × Nat × xS) := []
theorem oX7_with_0  : xm_okb cI RX7 cX7_with false 1 lX7_with bX7_with_0 0 := xo_0 dX7_with_0 rfl trivial (xo_0 dX7_with_1 rfl trivial (xo_0 dX7_with_2 rfl trivial (xo_0 dX7_with_3 rfl trivial (xo_n))))
theorem oX7_with  : ∀ q ∈ kX7_with, xm_okb cI RX7 cX7_with false 1 lX7_with q.2 q.1 := by
  intro q hq
  simp only [List.mem_cons, List.not_mem_nil, or_false] at hq
  subst hq
  exact oX7_with_0  
def S_X7_with : xS := fun as w Q _ => ∃ a u v, as = [.ref a, .int u, .int v] ∧ Q (some (.int (t_by (nI 4) u v))) w
theorem body_X7_with : xm_Body 3 0 0 0 [] lX7_with kX7_with S_X7_with := by
  intro X avs w Q QX hX0 hS
  have hG := xm_go [] hX0
  have hX := xm_go [] hX0
  clear hX0
  obtain ⟨a, u, v, rfl, hQ⟩ := hS
  refine ⟨rfl, ?_⟩
  repeat' (first
    | ((with_reducible refine @And.intro (vp_in _ _) _ ?_ ?_); (· (first | with_reducible assumption | ((with_reducible refine t_vin ?_); decide) | ((with_reducible refine vp_in_nI ?_ ?_) <;> first | omega | decide) | (simp (disch := omega) only [xl_n, xl_m, nI_dec, nI_sb, nI_add, pk_mul]; (with_reducible refine vp_in_nI ?_ ?_) <;> first | omega | decide))); (conv => whnf))
    | (refine And.intro (by first | with_reducible assumption | exact (show cL _ _ = _ from rfl) | decide) ?_; (conv => whnf))
    | ((with_reducible refine @And.intro (_ = _) _ ?_ ?_); (· rfl); (conv => whnf))
    | ((with_reducible refine @And.intro (@LE.le Nat _ _ _) _ ?_ ?_); (· (first | exact Nat.zero_le _ | exact Nat.le_of_ble_eq_true rfl | omega)); (conv => whnf))
    | ((with_reducible refine @And.intro (@LT.lt Nat _ _ _) _ ?_ ?_); (· omega); (conv => whnf))
    | ((with_reducible refine @And.intro (∃ _, _ = _) _ ?_ ?_); (· exact ⟨_, rfl⟩); (conv => whnf))
    | ((with_reducible refine @And.intro (_ ∨ _) _ ?_ ?_); (· (first | exact Or.inl rfl | exact Or.inr rfl | exact t_b01 _ | assumption)); (conv => whnf))
    | ((with_reducible refine @And.intro (¬ (_ = _)) _ ?_ ?_); (· first | assumption | (with_reducible assumption)); (conv => whnf))
    | (refine hX _ _ _ _ _ _ ?_; (conv => whnf); fail_if_success show False)
    | (rw [c_si]; (conv => whnf))
    | (refine ⟨_, rfl, ?_⟩; (conv => whnf))
    | (refine ⟨_, _, rfl, ?_⟩; (conv => whnf))
    | (refine ⟨_, _, _, rfl, ?_⟩; (conv => whnf))
    | (refine ⟨_, _, _, _, rfl, ?_⟩; (conv => whnf))
    | (refine And.intro (fun c => ?_) (fun c => ?_) <;> (first | (exact absurd c (by decide +kernel)) | (conv => whnf)))
    | fail)
  exact t_q hQ (t_by4 _ _).symm
theorem ct_X7_with : xm_Ct cI yX7_with (ws_ yX7_with cX7_with 3 (some .int)) 1 0 0 S_X7_with := xm_enter (rt := 0) (init := false) (by decide +kernel) rfl (fun h => by cases h) (Or.inl ⟨rfl, rfl⟩) (oX7_with) body_X7_with

abbrev bX19_with_0 : List xE := [(.iload_n 2, 1, 0, 0, 0), (.ifCond .ne 7, 4, 0, 8, 0), (.iconst 0, 5, 0, 0, 0), (.goto 6, 8, 0, 11, 0)]
abbrev bX19_with_8 : List xE := [(.iload_n 1, 9, 0, 0, 0), (.iload_n 2, 10, 0, 0, 0), (.idiv, 11, 0, 0, 0)]
abbrev bX19_with_11 : List xE := [(.ireturn, 12, 0, 0, 0)]
abbrev kX19_with : List (Nat × List xE) := [(0, bX19_with_0), (8, bX19_with_8), (11, bX19_with_11)]
abbrev lX19_with : List (Nat × Nat × Nat × xS) := []
theorem oX19_with_0  : xm_okb cI RX19 cX19_with false 1 lX19_with bX19_with_0 0 := xo_0 dX19_with_0 rfl trivial (xo_0 dX19_with_1 rfl rfl (xo_0 dX19_with_4 rfl trivial (xo_0 dX19_with_5 rfl rfl (xo_n))))
theorem oX19_with_8  : xm_okb cI RX19 cX19_with false 1 lX19_with bX19_with_8 8 := xo_0 dX19_with_8 rfl trivial (xo_0 dX19_with_9 rfl trivial (xo_0 dX19_with_10 rfl trivial (xo_n)))
theorem oX19_with_11  : xm_okb cI RX19 cX19_with false 1 lX19_with bX19_with_11 11 := xo_0 dX19_with_11 rfl trivial (xo_n)
theorem oX19_with  : ∀ q ∈ kX19_with, xm_okb cI RX19 cX19_with false 1 lX19_with q.2 q.1 := by
  intro q hq
  simp only [List.mem_cons, List.not_mem_nil, or_false] at hq
  rcases hq with rfl | rfl | rfl
  · exact oX19_with_0  
  · exact oX19_with_8  
  · exact oX19_with_11  
def S_X19_with : xS := fun as w Q _ => ∃ a u v, as = [.ref a, .int u, .int v] ∧ Q (some (.int (t_by (nI 5) u v))) w
theorem body_X19_with : xm_Body 3 0 0 0 [] lX19_with kX19_with S_X19_with := by
  intro X avs w Q QX hX0 hS
  have hG := xm_go [] hX0
  have hX := xm_go [] hX0
  clear hX0
  obtain ⟨a, u, v, rfl, hQ⟩ := hS
  refine ⟨rfl, ?_⟩
  rw [t_by5] at hQ
  repeat' (first
    | ((with_reducible refine @And.intro (vp_in _ _) _ ?_ ?_); (· (first | with_reducible assumption | ((with_reducible refine t_vin ?_); decide) | ((with_reducible refine vp_in_nI ?_ ?_) <;> first | omega | decide) | (simp (disch := omega) only [xl_n, xl_m, nI_dec, nI_sb, nI_add, pk_mul]; (with_reducible refine vp_in_nI ?_ ?_) <;> first | omega | decide))); (conv => whnf))
    | (refine And.intro (by first | with_reducible assumption | exact (show cL _ _ = _ from rfl) | decide) ?_; (conv => whnf))
    | ((with_reducible refine @And.intro (_ = _) _ ?_ ?_); (· rfl); (conv => whnf))
    | ((with_reducible refine @And.intro (@LE.le Nat _ _ _) _ ?_ ?_); (· (first | exact Nat.zero_le _ | exact Nat.le_of_ble_eq_true rfl | omega)); (conv => whnf))
    | ((with_reducible refine @And.intro (@LT.lt Nat _ _ _) _ ?_ ?_); (· omega); (conv => whnf))
    | ((with_reducible refine @And.intro (∃ _, _ = _) _ ?_ ?_); (· exact ⟨_, rfl⟩); (conv => whnf))
    | ((with_reducible refine @And.intro (_ ∨ _) _ ?_ ?_); (· (first | exact Or.inl rfl | exact Or.inr rfl | exact t_b01 _ | assumption)); (conv => whnf))
    | ((with_reducible refine @And.intro (¬ (_ = _)) _ ?_ ?_); (· first | assumption | (with_reducible assumption)); (conv => whnf))
    | (refine hX _ _ _ _ _ _ ?_; (conv => whnf); fail_if_success show False)
    | (rw [c_si]; (conv => whnf))
    | (refine ⟨_, rfl, ?_⟩; (conv => whnf))
    | (refine ⟨_, _, rfl, ?_⟩; (conv => whnf))
    | (refine ⟨_, _, _, rfl, ?_⟩; (conv => whnf))
    | (refine ⟨_, _, _, _, rfl, ?_⟩; (conv => whnf))
    | (refine And.intro (fun c => ?_) (fun c => ?_) <;> (first | (exact absurd c (by decide +kernel)) | (conv => whnf)))
    | fail)
  · rw [if_neg (by rw [nI_0]; exact c)] at hQ
    refine t_q hQ ?_
    split
    · rename_i q
      rw [q]
      exact t_div_nM u
    · rfl
  · rw [if_pos (by rw [nI_0]; exact Classical.not_not.mp c)] at hQ
    exact t_q hQ xl_n.1
theorem ct_X19_with : xm_Ct cI yX19_with (ws_ yX19_with cX19_with 3 (some .int)) 1 0 0 S_X19_with := xm_enter (rt := 0) (init := false) (by decide +kernel) rfl (fun h => by cases h) (Or.inl ⟨rfl, rfl⟩) (oX19_with) body_X19_with

abbrev bX20_with_0 : List xE := [(.iload_n 2, 1, 0, 0, 0), (.ifCond .ne 7, 4, 0, 8, 0), (.iconst 0, 5, 0, 0, 0), (.goto 6, 8, 0, 11, 0)]
abbrev bX20_with_8 : List xE := [(.iload_n 1, 9, 0, 0, 0), (.iload_n 2, 10, 0, 0, 0), (.irem, 11, 0, 0, 0)]
abbrev bX20_with_11 : List xE := [(.ireturn, 12, 0, 0, 0)]
abbrev kX20_with : List (Nat × List xE) := [(0, bX20_with_0), (8, bX20_with_8), (11, bX20_with_11)]
abbrev lX20_with : List (Nat × Nat × Nat × xS) := []
theorem oX20_with_0  : xm_okb cI RX20 cX20_with false 1 lX20_with bX20_with_0 0 := xo_0 dX20_with_0 rfl trivial (xo_0 dX20_with_1 rfl rfl (xo_0 dX20_with_4 rfl trivial (xo_0 dX20_with_5 rfl rfl (xo_n))))
theorem oX20_with_8  : xm_okb cI RX20 cX20_with false 1 lX20_with bX20_with_8 8 := xo_0 dX20_with_8 rfl trivial (xo_0 dX20_with_9 rfl trivial (xo_0 dX20_with_10 rfl trivial (xo_n)))
theorem oX20_with_11  : xm_okb cI RX20 cX20_with false 1 lX20_with bX20_with_11 11 := xo_0 dX20_with_11 rfl trivial (xo_n)
theorem oX20_with  : ∀ q ∈ kX20_with, xm_okb cI RX20 cX20_with false 1 lX20_with q.2 q.1 := by
  intro q hq
  simp only [List.mem_cons, List.not_mem_nil, or_false] at hq
  rcases hq with rfl | rfl | rfl
  · exact oX20_with_0  
  · exact oX20_with_8  
  · exact oX20_with_11  
def S_X20_with : xS := fun as w Q _ => ∃ a u v, as = [.ref a, .int u, .int v] ∧ Q (some (.int (t_by (nI 6) u v))) w
theorem body_X20_with : xm_Body 3 0 0 0 [] lX20_with kX20_with S_X20_with := by
  intro X avs w Q QX hX0 hS
  have hG := xm_go [] hX0
  have hX := xm_go [] hX0
  clear hX0
  obtain ⟨a, u, v, rfl, hQ⟩ := hS
  refine ⟨rfl, ?_⟩
  rw [t_by6] at hQ
  repeat' (first
    | ((with_reducible refine @And.intro (vp_in _ _) _ ?_ ?_); (· (first | with_reducible assumption | ((with_reducible refine t_vin ?_); decide) | ((with_reducible refine vp_in_nI ?_ ?_) <;> first | omega | decide) | (simp (disch := omega) only [xl_n, xl_m, nI_dec, nI_sb, nI_add, pk_mul]; (with_reducible refine vp_in_nI ?_ ?_) <;> first | omega | decide))); (conv => whnf))
    | (refine And.intro (by first | with_reducible assumption | exact (show cL _ _ = _ from rfl) | decide) ?_; (conv => whnf))
    | ((with_reducible refine @And.intro (_ = _) _ ?_ ?_); (· rfl); (conv => whnf))
    | ((with_reducible refine @And.intro (@LE.le Nat _ _ _) _ ?_ ?_); (· (first | exact Nat.zero_le _ | exact Nat.le_of_ble_eq_true rfl | omega)); (conv => whnf))
    | ((with_reducible refine @And.intro (@LT.lt Nat _ _ _) _ ?_ ?_); (· omega); (conv => whnf))
    | ((with_reducible refine @And.intro (∃ _, _ = _) _ ?_ ?_); (· exact ⟨_, rfl⟩); (conv => whnf))
    | ((with_reducible refine @And.intro (_ ∨ _) _ ?_ ?_); (· (first | exact Or.inl rfl | exact Or.inr rfl | exact t_b01 _ | assumption)); (conv => whnf))
    | ((with_reducible refine @And.intro (¬ (_ = _)) _ ?_ ?_); (· first | assumption | (with_reducible assumption)); (conv => whnf))
    | (refine hX _ _ _ _ _ _ ?_; (conv => whnf); fail_if_success show False)
    | (rw [c_si]; (conv => whnf))
    | (refine ⟨_, rfl, ?_⟩; (conv => whnf))
    | (refine ⟨_, _, rfl, ?_⟩; (conv => whnf))
    | (refine ⟨_, _, _, rfl, ?_⟩; (conv => whnf))
    | (refine ⟨_, _, _, _, rfl, ?_⟩; (conv => whnf))
    | (refine And.intro (fun c => ?_) (fun c => ?_) <;> (first | (exact absurd c (by decide +kernel)) | (conv => whnf)))
    | fail)
  · refine t_q hQ ?_
    split
    · rename_i q
      rcases q with q | q
      · exact absurd (q.trans nI_0) c
      · rw [q]
        show u - u / nM * nM = nI 0
        rw [t_div_nM, show nM = -1 by rfl, Int32.mul_neg, Int32.mul_one, Int32.neg_neg, Int32.sub_self, nI_0]
    · rfl
  · rw [if_pos (Or.inl (by rw [nI_0]; exact Classical.not_not.mp c))] at hQ
    exact t_q hQ xl_n.1
theorem ct_X20_with : xm_Ct cI yX20_with (ws_ yX20_with cX20_with 3 (some .int)) 1 0 0 S_X20_with := xm_enter (rt := 0) (init := false) (by decide +kernel) rfl (fun h => by cases h) (Or.inl ⟨rfl, rfl⟩) (oX20_with) body_X20_with

abbrev bX17_with_0 : List xE := [(.iload_n 1, 1, 0, 0, 0), (.iload_n 2, 2, 0, 0, 0), (.invokestatic 7, 5, 0, 0, 9), (.ireturn, 6, 0, 0, 0)]
abbrev kX17_with : List (Nat × List xE) := [(0, bX17_with_0)]
abbrev lX17_with : List (Nat × Nat × Nat × xS) := [(2, 0, 0, S_J12_min)]
theorem oX17_with_0  : xm_okb cI RX17 cX17_with false 1 lX17_with bX17_with_0 0 := xo_0 dX17_with_0 rfl trivial (xo_0 dX17_with_1 rfl trivial (xo_c rfl (xc_min dX17_with_2 q946 (by decide)) (xo_0 dX17_with_5 rfl trivial (xo_n))))
theorem oX17_with  : ∀ q ∈ kX17_with, xm_okb cI RX17 cX17_with false 1 lX17_with q.2 q.1 := by
  intro q hq
  simp only [List.mem_cons, List.not_mem_nil, or_false] at hq
  subst hq
  exact oX17_with_0  
def S_X17_with : xS := fun as w Q _ => ∃ a u v, as = [.ref a, .int u, .int v] ∧ Q (some (.int (t_by (nI 7) u v))) w
theorem body_X17_with : xm_Body 3 0 0 0 [] lX17_with kX17_with S_X17_with := by
  intro X avs w Q QX hX0 hS
  have hG := xm_go [] hX0
  have hX := xm_go [] hX0
  clear hX0
  obtain ⟨a, u, v, rfl, hQ⟩ := hS
  refine ⟨rfl, ?_⟩
  repeat' (first
    | ((with_reducible refine @And.intro (vp_in _ _) _ ?_ ?_); (· (first | with_reducible assumption | ((with_reducible refine t_vin ?_); decide) | ((with_reducible refine vp_in_nI ?_ ?_) <;> first | omega | decide) | (simp (disch := omega) only [xl_n, xl_m, nI_dec, nI_sb, nI_add, pk_mul]; (with_reducible refine vp_in_nI ?_ ?_) <;> first | omega | decide))); (conv => whnf))
    | (refine And.intro (by first | with_reducible assumption | exact (show cL _ _ = _ from rfl) | decide) ?_; (conv => whnf))
    | ((with_reducible refine @And.intro (_ = _) _ ?_ ?_); (· rfl); (conv => whnf))
    | ((with_reducible refine @And.intro (@LE.le Nat _ _ _) _ ?_ ?_); (· (first | exact Nat.zero_le _ | exact Nat.le_of_ble_eq_true rfl | omega)); (conv => whnf))
    | ((with_reducible refine @And.intro (@LT.lt Nat _ _ _) _ ?_ ?_); (· omega); (conv => whnf))
    | ((with_reducible refine @And.intro (∃ _, _ = _) _ ?_ ?_); (· exact ⟨_, rfl⟩); (conv => whnf))
    | ((with_reducible refine @And.intro (_ ∨ _) _ ?_ ?_); (· (first | exact Or.inl rfl | exact Or.inr rfl | exact t_b01 _ | assumption)); (conv => whnf))
    | ((with_reducible refine @And.intro (¬ (_ = _)) _ ?_ ?_); (· first | assumption | (with_reducible assumption)); (conv => whnf))
    | (refine hX _ _ _ _ _ _ ?_; (conv => whnf); fail_if_success show False)
    | (rw [c_si]; (conv => whnf))
    | (refine ⟨_, rfl, ?_⟩; (conv => whnf))
    | (refine ⟨_, _, rfl, ?_⟩; (conv => whnf))
    | (refine ⟨_, _, _, rfl, ?_⟩; (conv => whnf))
    | (refine ⟨_, _, _, _, rfl, ?_⟩; (conv => whnf))
    | (refine And.intro (fun c => ?_) (fun c => ?_) <;> (first | (exact absurd c (by decide +kernel)) | (conv => whnf)))
    | fail)
  exact t_q hQ (t_by7 _ _).symm
theorem ct_X17_with : xm_Ct cI yX17_with (ws_ yX17_with cX17_with 3 (some .int)) 1 0 0 S_X17_with := xm_enter (rt := 0) (init := false) (by decide +kernel) rfl (fun h => by cases h) (Or.inl ⟨rfl, rfl⟩) (oX17_with) body_X17_with

abbrev bX18_with_0 : List xE := [(.iload_n 1, 1, 0, 0, 0), (.iload_n 2, 2, 0, 0, 0), (.invokestatic 7, 5, 0, 0, 9), (.ireturn, 6, 0, 0, 0)]
abbrev kX18_with : List (Nat × List xE) := [(0, bX18_with_0)]
abbrev lX18_with : List (Nat × Nat × Nat × xS) := [(2, 0, 0, S_J12_max)]
theorem oX18_with_0  : xm_okb cI RX18 cX18_with false 1 lX18_with bX18_with_0 0 := xo_0 dX18_with_0 rfl trivial (xo_0 dX18_with_1 rfl trivial (xo_c rfl (xc_max dX18_with_2 q956 (by decide)) (xo_0 dX18_with_5 rfl trivial (xo_n))))
theorem oX18_with  : ∀ q ∈ kX18_with, xm_okb cI RX18 cX18_with false 1 lX18_with q.2 q.1 := by
  intro q hq
  simp only [List.mem_cons, List.not_mem_nil, or_false] at hq
  subst hq
  exact oX18_with_0  
def S_X18_with : xS := fun as w Q _ => ∃ a u v, as = [.ref a, .int u, .int v] ∧ Q (some (.int (t_by (nI 8) u v))) w
theorem body_X18_with : xm_Body 3 0 0 0 [] lX18_with kX18_with S_X18_with := by
  intro X avs w Q QX hX0 hS
  have hG := xm_go [] hX0
  have hX := xm_go [] hX0
  clear hX0
  obtain ⟨a, u, v, rfl, hQ⟩ := hS
  refine ⟨rfl, ?_⟩
  repeat' (first
    | ((with_reducible refine @And.intro (vp_in _ _) _ ?_ ?_); (· (first | with_reducible assumption | ((with_reducible refine t_vin ?_); decide) | ((with_reducible refine vp_in_nI ?_ ?_) <;> first | omega | decide) | (simp (disch := omega) only [xl_n, xl_m, nI_dec, nI_sb, nI_add, pk_mul]; (with_reducible refine vp_in_nI ?_ ?_) <;> first | omega | decide))); (conv => whnf))
    | (refine And.intro (by first | with_reducible assumption | exact (show cL _ _ = _ from rfl) | decide) ?_; (conv => whnf))
    | ((with_reducible refine @And.intro (_ = _) _ ?_ ?_); (· rfl); (conv => whnf))
    | ((with_reducible refine @And.intro (@LE.le Nat _ _ _) _ ?_ ?_); (· (first | exact Nat.zero_le _ | exact Nat.le_of_ble_eq_true rfl | omega)); (conv => whnf))
    | ((with_reducible refine @And.intro (@LT.lt Nat _ _ _) _ ?_ ?_); (· omega); (conv => whnf))
    | ((with_reducible refine @And.intro (∃ _, _ = _) _ ?_ ?_); (· exact ⟨_, rfl⟩); (conv => whnf))
    | ((with_reducible refine @And.intro (_ ∨ _) _ ?_ ?_); (· (first | exact Or.inl rfl | exact Or.inr rfl | exact t_b01 _ | assumption)); (conv => whnf))
    | ((with_reducible refine @And.intro (¬ (_ = _)) _ ?_ ?_); (· first | assumption | (with_reducible assumption)); (conv => whnf))
    | (refine hX _ _ _ _ _ _ ?_; (conv => whnf); fail_if_success show False)
    | (rw [c_si]; (conv => whnf))
    | (refine ⟨_, rfl, ?_⟩; (conv => whnf))
    | (refine ⟨_, _, rfl, ?_⟩; (conv => whnf))
    | (refine ⟨_, _, _, rfl, ?_⟩; (conv => whnf))
    | (refine ⟨_, _, _, _, rfl, ?_⟩; (conv => whnf))
    | (refine And.intro (fun c => ?_) (fun c => ?_) <;> (first | (exact absurd c (by decide +kernel)) | (conv => whnf)))
    | fail)
  exact t_q hQ (t_by8 _ _).symm
theorem ct_X18_with : xm_Ct cI yX18_with (ws_ yX18_with cX18_with 3 (some .int)) 1 0 0 S_X18_with := xm_enter (rt := 0) (init := false) (by decide +kernel) rfl (fun h => by cases h) (Or.inl ⟨rfl, rfl⟩) (oX18_with) body_X18_with

def y_of : MethodName := ⟨"PuppetHeirs$Term", "of", "([I)I"⟩
def y_with : MethodName := ⟨"PuppetHeirs$Two", "with", "(II)I"⟩
def vS_with : xS := fun as w Q _ => ∃ a z n u v, as = [.ref a, .int u, .int v] ∧ 2 ≤ z ∧ z ≤ 8 ∧ w.1 a = some (c_tg z, n) ∧ Q (some (.int (t_by (nI z) u v))) w
theorem cv_with {own : String} {cc : ByteArray} {fr pc idx : Nat} (hl : Cond.methodLink own idx y_with ∈ lw_all) (hfr : 3 < fr) (hdg : decode cc pc = .ok (.invokevirtual idx, 3)) : xm_CallOK cI own cc fr pc (pc + 3) 3 0 0 vS_with := by
  have h2 := (xm_callU (own := own) (cc := cc) (fr := fr) (pc := pc) (idx := idx) (n := 2) (x := y_with) 2 cI_good ct_X5_with hdg hl q939 q938 q958 q957 q139 q959 rfl ⟨by decide +kernel, by rfl⟩ (by omega) (by decide))
  have h3 := (xm_callU (own := own) (cc := cc) (fr := fr) (pc := pc) (idx := idx) (n := 2) (x := y_with) 3 cI_good ct_X6_with hdg hl q939 q938 q951 q950 q140 q952 rfl ⟨by decide +kernel, by rfl⟩ (by omega) (by decide))
  have h4 := (xm_callU (own := own) (cc := cc) (fr := fr) (pc := pc) (idx := idx) (n := 2) (x := y_with) 4 cI_good ct_X7_with hdg hl q939 q938 q961 q960 q141 q962 rfl ⟨by decide +kernel, by rfl⟩ (by omega) (by decide))
  have h5 := (xm_callU (own := own) (cc := cc) (fr := fr) (pc := pc) (idx := idx) (n := 2) (x := y_with) 15 cI_good ct_X19_with hdg hl q939 q938 q941 q940 q153 q942 rfl ⟨by decide +kernel, by rfl⟩ (by omega) (by decide))
  have h6 := (xm_callU (own := own) (cc := cc) (fr := fr) (pc := pc) (idx := idx) (n := 2) (x := y_with) 16 cI_good ct_X20_with hdg hl q939 q938 q948 q947 q154 q949 rfl ⟨by decide +kernel, by rfl⟩ (by omega) (by decide))
  have h7 := (xm_callU (own := own) (cc := cc) (fr := fr) (pc := pc) (idx := idx) (n := 2) (x := y_with) 13 cI_good ct_X17_with hdg hl q939 q938 q944 q943 q151 q945 rfl ⟨by decide +kernel, by rfl⟩ (by omega) (by decide))
  have h8 := (xm_callU (own := own) (cc := cc) (fr := fr) (pc := pc) (idx := idx) (n := 2) (x := y_with) 14 cI_good ct_X18_with hdg hl q939 q938 q954 q953 q152 q955 rfl ⟨by decide +kernel, by rfl⟩ (by omega) (by decide))
  refine (h2.or (h3.or (h4.or (h5.or (h6.or (h7.or h8)))))).mono fun as w K KX h => ?_
  obtain ⟨a, z, n, u, v, rfl, h1, h2, h3, h4⟩ := h
  have : z = 2 ∨ z = 3 ∨ z = 4 ∨ z = 5 ∨ z = 6 ∨ z = 7 ∨ z = 8 := by omega
  rcases this with rfl | rfl | rfl | rfl | rfl | rfl | rfl
  · exact Or.inl ⟨⟨n, h3⟩, a, u, v, rfl, h4⟩
  · exact Or.inr (Or.inl ⟨⟨n, h3⟩, a, u, v, rfl, h4⟩)
  · exact Or.inr (Or.inr (Or.inl ⟨⟨n, h3⟩, a, u, v, rfl, h4⟩))
  · exact Or.inr (Or.inr (Or.inr (Or.inl ⟨⟨n, h3⟩, a, u, v, rfl, h4⟩)))
  · exact Or.inr (Or.inr (Or.inr (Or.inr (Or.inl ⟨⟨n, h3⟩, a, u, v, rfl, h4⟩))))
  · exact Or.inr (Or.inr (Or.inr (Or.inr (Or.inr (Or.inl ⟨⟨n, h3⟩, a, u, v, rfl, h4⟩)))))
  · exact Or.inr (Or.inr (Or.inr (Or.inr (Or.inr (Or.inr (⟨⟨n, h3⟩, a, u, v, rfl, h4⟩))))))
abbrev bX8_of_0 : List xE := [(.aload_n 1, 1, 0, 0, 0), (.aload_n 0, 2, 0, 0, 0), (.getfield 7, 5, 5, 0, 0), (.iaload, 6, 0, 0, 0), (.ireturn, 7, 0, 0, 0)]
abbrev kX8_of : List (Nat × List xE) := [(0, bX8_of_0)]
abbrev lX8_of : List (Nat × Nat × Nat × xS) := []
theorem oX8_of_0  : xm_okb cI RX8 cX8_of false 1 lX8_of bX8_of_0 0 := xo_0 dX8_of_0 rfl trivial (xo_0 dX8_of_1 rfl trivial (xo_0 dX8_of_2 rfl (xm_fg_of (Or.inl q614) (by decide) rfl (by decide) rfl rfl (Or.inl rfl) rfl) (xo_0 dX8_of_5 rfl trivial (xo_0 dX8_of_6 rfl trivial (xo_n)))))
theorem oX8_of  : ∀ q ∈ kX8_of, xm_okb cI RX8 cX8_of false 1 lX8_of q.2 q.1 := by
  intro q hq
  simp only [List.mem_cons, List.not_mem_nil, or_false] at hq
  subst hq
  exact oX8_of_0  
def S_X8_of : xS := fun as w Q _ => ∃ a fa j, as = [.ref a, .ref fa] ∧ j < 9 ∧ w.1 a = some (5, 1) ∧ w.2.1 a 0 = nI j ∧ w.1 fa = some (100, 9) ∧ Q (some (.int (w.2.1 fa j))) w
theorem body_X8_of : xm_Body 2 0 0 0 [] lX8_of kX8_of S_X8_of := by
  intro X avs w Q QX hX0 hS
  have hG := xm_go [] hX0
  have hX := xm_go [] hX0
  clear hX0
  obtain ⟨a, fa, j, rfl, hj, h1, h2, h3, hQ⟩ := hS
  have hv : vp_in (w.2.1 a 0) 9 := by rw [h2]; exact vp_in_nI (by omega) (by omega)
  refine ⟨rfl, ?_⟩
  repeat' (first
    | ((with_reducible refine @And.intro (vp_in _ _) _ ?_ ?_); (· (first | with_reducible assumption | ((with_reducible refine t_vin ?_); decide) | ((with_reducible refine vp_in_nI ?_ ?_) <;> first | omega | decide) | (simp (disch := omega) only [xl_n, xl_m, nI_dec, nI_sb, nI_add, pk_mul]; (with_reducible refine vp_in_nI ?_ ?_) <;> first | omega | decide))); (conv => whnf))
    | (refine And.intro (by first | with_reducible assumption | exact (show cL _ _ = _ from rfl) | decide) ?_; (conv => whnf))
    | ((with_reducible refine @And.intro (_ = _) _ ?_ ?_); (· rfl); (conv => whnf))
    | ((with_reducible refine @And.intro (@LE.le Nat _ _ _) _ ?_ ?_); (· (first | exact Nat.zero_le _ | exact Nat.le_of_ble_eq_true rfl | omega)); (conv => whnf))
    | ((with_reducible refine @And.intro (@LT.lt Nat _ _ _) _ ?_ ?_); (· omega); (conv => whnf))
    | ((with_reducible refine @And.intro (∃ _, _ = _) _ ?_ ?_); (· exact ⟨_, rfl⟩); (conv => whnf))
    | ((with_reducible refine @And.intro (_ ∨ _) _ ?_ ?_); (· (first | exact Or.inl rfl | exact Or.inr rfl | exact t_b01 _ | assumption)); (conv => whnf))
    | ((with_reducible refine @And.intro (¬ (_ = _)) _ ?_ ?_); (· first | assumption | (with_reducible assumption)); (conv => whnf))
    | (refine hX _ _ _ _ _ _ ?_; (conv => whnf); fail_if_success show False)
    | (rw [c_si]; (conv => whnf))
    | (refine ⟨_, rfl, ?_⟩; (conv => whnf))
    | (refine ⟨_, _, rfl, ?_⟩; (conv => whnf))
    | (refine ⟨_, _, _, rfl, ?_⟩; (conv => whnf))
    | (refine ⟨_, _, _, _, rfl, ?_⟩; (conv => whnf))
    | (rw [h1]; (conv => whnf))
    | (rw [h3]; (conv => whnf))
    | (refine And.intro (fun c => ?_) (fun c => ?_) <;> (first | (exact absurd c (by decide +kernel)) | (conv => whnf)))
    | fail)
  refine t_q hQ ?_
  rw [h2, nI_clamp (by omega)]
theorem ct_X8_of : xm_Ct cI yX8_of (ws_ yX8_of cX8_of 2 (some .int)) 1 0 0 S_X8_of := xm_enter (rt := 0) (init := false) (by decide +kernel) rfl (fun h => by cases h) (Or.inl ⟨rfl, rfl⟩) (oX8_of) body_X8_of

abbrev bX9_of_0 : List xE := [(.aload_n 0, 1, 0, 0, 0), (.getfield 7, 4, 6, 0, 0), (.ireturn, 5, 0, 0, 0)]
abbrev kX9_of : List (Nat × List xE) := [(0, bX9_of_0)]
abbrev lX9_of : List (Nat × Nat × Nat × xS) := []
theorem oX9_of_0  : xm_okb cI RX9 cX9_of false 1 lX9_of bX9_of_0 0 := xo_0 dX9_of_0 rfl trivial (xo_0 dX9_of_1 rfl (xm_fg_of (Or.inl q624) (by decide) rfl (by decide) rfl rfl (Or.inl rfl) rfl) (xo_0 dX9_of_4 rfl trivial (xo_n)))
theorem oX9_of  : ∀ q ∈ kX9_of, xm_okb cI RX9 cX9_of false 1 lX9_of q.2 q.1 := by
  intro q hq
  simp only [List.mem_cons, List.not_mem_nil, or_false] at hq
  subst hq
  exact oX9_of_0  
def S_X9_of : xS := fun as w Q _ => ∃ a fa, as = [.ref a, .ref fa] ∧ w.1 a = some (6, 1) ∧ Q (some (.int (w.2.1 a 0))) w
theorem body_X9_of : xm_Body 2 0 0 0 [] lX9_of kX9_of S_X9_of := by
  intro X avs w Q QX hX0 hS
  have hG := xm_go [] hX0
  have hX := xm_go [] hX0
  clear hX0
  obtain ⟨a, fa, rfl, h1, hQ⟩ := hS
  refine ⟨rfl, ?_⟩
  repeat' (first
    | ((with_reducible refine @And.intro (vp_in _ _) _ ?_ ?_); (· (first | with_reducible assumption | ((with_reducible refine t_vin ?_); decide) | ((with_reducible refine vp_in_nI ?_ ?_) <;> first | omega | decide) | (simp (disch := omega) only [xl_n, xl_m, nI_dec, nI_sb, nI_add, pk_mul]; (with_reducible refine vp_in_nI ?_ ?_) <;> first | omega | decide))); (conv => whnf))
    | (refine And.intro (by first | with_reducible assumption | exact (show cL _ _ = _ from rfl) | decide) ?_; (conv => whnf))
    | ((with_reducible refine @And.intro (_ = _) _ ?_ ?_); (· rfl); (conv => whnf))
    | ((with_reducible refine @And.intro (@LE.le Nat _ _ _) _ ?_ ?_); (· (first | exact Nat.zero_le _ | exact Nat.le_of_ble_eq_true rfl | omega)); (conv => whnf))
    | ((with_reducible refine @And.intro (@LT.lt Nat _ _ _) _ ?_ ?_); (· omega); (conv => whnf))
    | ((with_reducible refine @And.intro (∃ _, _ = _) _ ?_ ?_); (· exact ⟨_, rfl⟩); (conv => whnf))
    | ((with_reducible refine @And.intro (_ ∨ _) _ ?_ ?_); (· (first | exact Or.inl rfl | exact Or.inr rfl | exact t_b01 _ | assumption)); (conv => whnf))
    | ((with_reducible refine @And.intro (¬ (_ = _)) _ ?_ ?_); (· first | assumption | (with_reducible assumption)); (conv => whnf))
    | (refine hX _ _ _ _ _ _ ?_; (conv => whnf); fail_if_success show False)
    | (rw [c_si]; (conv => whnf))
    | (refine ⟨_, rfl, ?_⟩; (conv => whnf))
    | (refine ⟨_, _, rfl, ?_⟩; (conv => whnf))
    | (refine ⟨_, _, _, rfl, ?_⟩; (conv => whnf))
    | (refine ⟨_, _, _, _, rfl, ?_⟩; (conv => whnf))
    | (rw [h1]; (conv => whnf))
    | (refine And.intro (fun c => ?_) (fun c => ?_) <;> (first | (exact absurd c (by decide +kernel)) | (conv => whnf)))
    | fail)
  exact hQ
theorem ct_X9_of : xm_Ct cI yX9_of (ws_ yX9_of cX9_of 2 (some .int)) 1 0 0 S_X9_of := xm_enter (rt := 0) (init := false) (by decide +kernel) rfl (fun h => by cases h) (Or.inl ⟨rfl, rfl⟩) (oX9_of) body_X9_of

def vS_of (d : Nat) : xS := fun as w Q _ => ∃ a fa L, as = [.ref a, .ref fa] ∧ c_rep d w a L ∧ w.1 fa = some (100, 9) ∧ Q (some (.int (l_val L (fun k => w.2.1 fa k)))) w
def S_X4_of (d : Nat) : xS := match d with
  | 0 => fun _ _ _ _ => False
  | d + 1 => fun as w Q _ => ∃ a fa z A B x y, as = [.ref a, .ref fa] ∧ 2 ≤ z ∧ z ≤ 8 ∧ w.1 a = some (c_tg z, 2) ∧ w.2.2.1 a 0 = some x ∧ w.2.2.1 a 1 = some y ∧ c_rep d w x A ∧ c_rep d w y B ∧ w.1 fa = some (100, 9) ∧ Q (some (.int (t_by (nI z) (l_val A (fun k => w.2.1 fa k)) (l_val B (fun k => w.2.1 fa k))))) w
theorem cv_of (d : Nat) (h4 : xm_Ct cI yX4_of (ws_ yX4_of cX4_of 2 (some .int)) (d + 4) 0 0 (S_X4_of d)) {own : String} {cc : ByteArray} {fr pc idx : Nat} (hl : Cond.methodLink own idx y_of ∈ lw_all) (hfr : d + 4 < fr) (hdg : decode cc pc = .ok (.invokevirtual idx, 3)) : xm_CallOK cI own cc fr pc (pc + 3) 2 0 0 (vS_of d) := by
  have h2z := (xm_callU (own := own) (cc := cc) (fr := fr) (pc := pc) (idx := idx) (n := 1) (x := y_of) 2 cI_good h4 hdg hl q928 q927 q930 q969 q138 q931 rfl ⟨by decide +kernel, by rfl⟩ (by omega) (by decide))
  have h3z := (xm_callU (own := own) (cc := cc) (fr := fr) (pc := pc) (idx := idx) (n := 1) (x := y_of) 3 cI_good h4 hdg hl q928 q927 q930 q966 q138 q931 rfl ⟨by decide +kernel, by rfl⟩ (by omega) (by decide))
  have h4z := (xm_callU (own := own) (cc := cc) (fr := fr) (pc := pc) (idx := idx) (n := 1) (x := y_of) 4 cI_good h4 hdg hl q928 q927 q930 q970 q138 q931 rfl ⟨by decide +kernel, by rfl⟩ (by omega) (by decide))
  have h5z := (xm_callU (own := own) (cc := cc) (fr := fr) (pc := pc) (idx := idx) (n := 1) (x := y_of) 15 cI_good h4 hdg hl q928 q927 q930 q929 q138 q931 rfl ⟨by decide +kernel, by rfl⟩ (by omega) (by decide))
  have h6z := (xm_callU (own := own) (cc := cc) (fr := fr) (pc := pc) (idx := idx) (n := 1) (x := y_of) 16 cI_good h4 hdg hl q928 q927 q930 q965 q138 q931 rfl ⟨by decide +kernel, by rfl⟩ (by omega) (by decide))
  have h7z := (xm_callU (own := own) (cc := cc) (fr := fr) (pc := pc) (idx := idx) (n := 1) (x := y_of) 13 cI_good h4 hdg hl q928 q927 q930 q964 q138 q931 rfl ⟨by decide +kernel, by rfl⟩ (by omega) (by decide))
  have h8z := (xm_callU (own := own) (cc := cc) (fr := fr) (pc := pc) (idx := idx) (n := 1) (x := y_of) 14 cI_good h4 hdg hl q928 q927 q930 q967 q138 q931 rfl ⟨by decide +kernel, by rfl⟩ (by omega) (by decide))
  have hF := (xm_callU (own := own) (cc := cc) (fr := fr) (pc := pc) (idx := idx) (n := 1) (x := y_of) 5 cI_good ct_X8_of hdg hl q928 q927 q933 q963 q142 q934 rfl ⟨by decide +kernel, by rfl⟩ (by omega) (by decide))
  have hP := (xm_callU (own := own) (cc := cc) (fr := fr) (pc := pc) (idx := idx) (n := 1) (x := y_of) 6 cI_good ct_X9_of hdg hl q928 q927 q935 q968 q143 q936 rfl ⟨by decide +kernel, by rfl⟩ (by omega) (by decide))
  refine (hF.or (hP.or (h2z.or (h3z.or (h4z.or (h5z.or (h6z.or (h7z.or h8z)))))))).mono fun as w K KX h => ?_
  obtain ⟨a, fa, L, rfl, h, hf, hQ⟩ := h
  match d, h with
  | d + 1, ⟨ha, h⟩ =>
    rcases h with ⟨v, g1, g2, rfl⟩ | ⟨j, hj, g1, g2, rfl⟩ | ⟨z, A, B, x, y, k1, k2, g1, g2, g3, g4, g5, rfl⟩
    · refine Or.inr (Or.inl ⟨⟨1, g1⟩, a, fa, rfl, g1, ?_⟩)
      rw [g2]
      rw [l_val_0] at hQ
      exact hQ
    · refine Or.inl ⟨⟨1, g1⟩, a, fa, j, rfl, hj, g1, g2, hf, ?_⟩
      rw [l_val_1, nI_clamp (by omega)] at hQ
      exact hQ
    · rw [l_val_z k1 k2 (c_rep_tr g4) (c_rep_tr g5)] at hQ
      have hS : S_X4_of (d + 1) [.ref a, .ref fa] w K KX := ⟨a, fa, z, A, B, x, y, rfl, k1, k2, g1, g2, g3, g4, g5, hf, hQ⟩
      refine Or.inr (Or.inr ?_)
      have : z = 2 ∨ z = 3 ∨ z = 4 ∨ z = 5 ∨ z = 6 ∨ z = 7 ∨ z = 8 := by omega
      rcases this with rfl | rfl | rfl | rfl | rfl | rfl | rfl
      · exact Or.inl ⟨⟨2, g1⟩, hS⟩
      · exact Or.inr (Or.inl ⟨⟨2, g1⟩, hS⟩)
      · exact Or.inr (Or.inr (Or.inl ⟨⟨2, g1⟩, hS⟩))
      · exact Or.inr (Or.inr (Or.inr (Or.inl ⟨⟨2, g1⟩, hS⟩)))
      · exact Or.inr (Or.inr (Or.inr (Or.inr (Or.inl ⟨⟨2, g1⟩, hS⟩))))
      · exact Or.inr (Or.inr (Or.inr (Or.inr (Or.inr (Or.inl ⟨⟨2, g1⟩, hS⟩)))))
      · exact Or.inr (Or.inr (Or.inr (Or.inr (Or.inr (Or.inr (⟨⟨2, g1⟩, hS⟩))))))
theorem fg_X4_7 : xm_fg RX4 7 31 0 1 := by
  refine ⟨_, _, _, (Or.inl q635), fun t ht => ?_⟩
  simp only [xm_sub, Bool.or_eq_true, beq_iff_eq] at ht
  rcases ht with (((((rfl | rfl) | rfl) | rfl) | rfl) | rfl) | rfl <;> exact ⟨_, rfl, by decide, rfl, rfl, Or.inl rfl, rfl⟩
theorem fp_X4_7 : xm_fp RX4 true 7 31 0 1 := by
  refine ⟨fg_X4_7, fun t ht _ r hr => ?_⟩
  simp only [xm_sub, Bool.or_eq_true, beq_iff_eq] at ht
  rcases ht with (((((rfl | rfl) | rfl) | rfl) | rfl) | rfl) | rfl <;> (cases hr; exact ⟨(Or.inr (Or.inl ⟨rfl, Or.inl ⟨_, rfl⟩⟩)), Or.inr ⟨rfl, rfl, rfl, _, q635, rfl⟩⟩)
theorem fg_X4_13 : xm_fg RX4 13 31 1 1 := by
  refine ⟨_, _, _, (Or.inl q636), fun t ht => ?_⟩
  simp only [xm_sub, Bool.or_eq_true, beq_iff_eq] at ht
  rcases ht with (((((rfl | rfl) | rfl) | rfl) | rfl) | rfl) | rfl <;> exact ⟨_, rfl, by decide, rfl, rfl, Or.inl rfl, rfl⟩
theorem fp_X4_13 : xm_fp RX4 true 13 31 1 1 := by
  refine ⟨fg_X4_13, fun t ht _ r hr => ?_⟩
  simp only [xm_sub, Bool.or_eq_true, beq_iff_eq] at ht
  rcases ht with (((((rfl | rfl) | rfl) | rfl) | rfl) | rfl) | rfl <;> (cases hr; exact ⟨(Or.inr (Or.inl ⟨rfl, Or.inl ⟨_, rfl⟩⟩)), Or.inr ⟨rfl, rfl, rfl, _, q636, rfl⟩⟩)
abbrev bX4_of_0 : List xE := [(.aload_n 0, 1, 0, 0, 0), (.aload_n 0, 2, 0, 0, 0), (.getfield 7, 5, 31, 0, 1), (.aload_n 1, 6, 0, 0, 0), (.invokevirtual 16, 9, 0, 0, 9), (.aload_n 0, 10, 0, 0, 0), (.getfield 13, 13, 31, 1, 1), (.aload_n 1, 14, 0, 0, 0), (.invokevirtual 16, 17, 0, 0, 9), (.invokevirtual 20, 20, 0, 1, 9), (.ireturn, 21, 0, 0, 0)]
abbrev kX4_of : List (Nat × List xE) := [(0, bX4_of_0)]
abbrev lX4_of (d : Nat) : List (Nat × Nat × Nat × xS) := [(2, 0, 0, (vS_of d)), (3, 0, 0, vS_with)]
theorem oX4_of_0 (d : Nat) (ih : xm_Ct cI yX4_of (ws_ yX4_of cX4_of 2 (some .int)) (d + 4) 0 0 (S_X4_of d)): xm_okb cI RX4 cX4_of false (d + 5) (lX4_of d) bX4_of_0 0 := xo_0 dX4_of_0 rfl trivial (xo_0 dX4_of_1 rfl trivial (xo_1 dX4_of_2 rfl fg_X4_7 (xo_0 dX4_of_5 rfl trivial (xo_c rfl ((cv_of d ih q932 (by omega)) dX4_of_6) (xo_0 dX4_of_9 rfl trivial (xo_1 dX4_of_10 rfl fg_X4_13 (xo_0 dX4_of_13 rfl trivial (xo_c rfl ((cv_of d ih q932 (by omega)) dX4_of_14) (xo_c rfl ((cv_with q937 (by omega)) dX4_of_17) (xo_0 dX4_of_20 rfl trivial (xo_n)))))))))))
theorem oX4_of (d : Nat) (ih : xm_Ct cI yX4_of (ws_ yX4_of cX4_of 2 (some .int)) (d + 4) 0 0 (S_X4_of d)): ∀ q ∈ kX4_of, xm_okb cI RX4 cX4_of false (d + 5) (lX4_of d) q.2 q.1 := by
  intro q hq
  simp only [List.mem_cons, List.not_mem_nil, or_false] at hq
  subst hq
  exact oX4_of_0 d  ih
theorem body_X4_of (d : Nat) : xm_Body 2 0 0 0 [] (lX4_of d) kX4_of (S_X4_of (d + 1)) := by
  intro X avs w Q QX hX0 hS
  have hG := xm_go [] hX0
  have hX := xm_go [] hX0
  clear hX0
  obtain ⟨a, fa, z, A, B, x, y, rfl, k1, k2, g1, g2, g3, g4, g5, hf, hQ⟩ := hS
  have e0 : xm_fld w a 0 1 = .ref x := by show va_rf (w.2.2.1 a 0) = _; rw [g2]; rfl
  have e1 : xm_fld w a 1 1 = .ref y := by show va_rf (w.2.2.1 a 1) = _; rw [g3]; rfl
  have hs : xm_sub (c_tg z) 31 = true := by
    have : z = 2 ∨ z = 3 ∨ z = 4 ∨ z = 5 ∨ z = 6 ∨ z = 7 ∨ z = 8 := by omega
    rcases this with rfl | rfl | rfl | rfl | rfl | rfl | rfl <;> rfl
  refine ⟨rfl, ?_⟩
  repeat' (first
    | ((with_reducible refine @And.intro (vp_in _ _) _ ?_ ?_); (· (first | with_reducible assumption | ((with_reducible refine t_vin ?_); decide) | ((with_reducible refine vp_in_nI ?_ ?_) <;> first | omega | decide) | (simp (disch := omega) only [xl_n, xl_m, nI_dec, nI_sb, nI_add, pk_mul]; (with_reducible refine vp_in_nI ?_ ?_) <;> first | omega | decide))); (conv => whnf))
    | (refine And.intro (by first | with_reducible assumption | exact (show cL _ _ = _ from rfl) | decide) ?_; (conv => whnf))
    | ((with_reducible refine @And.intro (_ = _) _ ?_ ?_); (· rfl); (conv => whnf))
    | ((with_reducible refine @And.intro (@LE.le Nat _ _ _) _ ?_ ?_); (· (first | exact Nat.zero_le _ | exact Nat.le_of_ble_eq_true rfl | omega)); (conv => whnf))
    | ((with_reducible refine @And.intro (@LT.lt Nat _ _ _) _ ?_ ?_); (· omega); (conv => whnf))
    | ((with_reducible refine @And.intro (∃ _, _ = _) _ ?_ ?_); (· exact ⟨_, rfl⟩); (conv => whnf))
    | ((with_reducible refine @And.intro (_ ∨ _) _ ?_ ?_); (· (first | exact Or.inl rfl | exact Or.inr rfl | exact t_b01 _ | assumption)); (conv => whnf))
    | ((with_reducible refine @And.intro (¬ (_ = _)) _ ?_ ?_); (· first | assumption | (with_reducible assumption)); (conv => whnf))
    | (refine hX _ _ _ _ _ _ ?_; (conv => whnf); fail_if_success show False)
    | (rw [c_si]; (conv => whnf))
    | (refine ⟨_, rfl, ?_⟩; (conv => whnf))
    | (refine ⟨_, _, rfl, ?_⟩; (conv => whnf))
    | (refine ⟨_, _, _, rfl, ?_⟩; (conv => whnf))
    | (refine ⟨_, _, _, _, rfl, ?_⟩; (conv => whnf))
    | (rw [g1]; (conv => whnf))
    | (simp only [hs]; (conv => whnf))
    | (rw [e0]; (conv => whnf))
    | (rw [e1]; (conv => whnf))
    | (refine ⟨_,_,_,rfl,(by assumption),(by assumption),?_⟩; (conv => whnf))
    | (refine ⟨_,_,_,_,_,rfl,k1,k2,g1,?_⟩; (conv => whnf))
    | (refine And.intro (fun c => ?_) (fun c => ?_) <;> (first | (exact absurd c (by decide +kernel)) | (conv => whnf)))
    | fail)
  exact hQ
theorem ct_X4_of : ∀ d, xm_Ct cI yX4_of (ws_ yX4_of cX4_of 2 (some .int)) (d + 4) 0 0 (S_X4_of d)
  | 0 => xm_ct0
  | d + 1 => xm_enter (rt := 0) (init := false) (by decide +kernel) rfl (fun h => by cases h) (Or.inl ⟨rfl, rfl⟩) (oX4_of d (ct_X4_of d)) (body_X4_of d)
