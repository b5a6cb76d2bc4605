/-! ===== terms made, and the custom ===== -/
set_option maxRecDepth 100000
set_option maxHeartbeats 1000000
abbrev bX17_init_0 : List xE := [(.aload_n 0, 1, 0, 0, 0), (.aload_n 1, 2, 0, 0, 0), (.aload_n 2, 3, 0, 0, 0), (.invokespecial 1, 6, 0, 0, 9), (.return_, 7, 0, 0, 0)]
abbrev kX17_init : List (Nat × List xE) := [(0, bX17_init_0)]
abbrev lX17_init : List (Nat × Nat × Nat × xS) := [(3, 0, 0, S_X4_init)]
theorem oX17_init_0  : xm_okb cI RX17 cX17_init true 3 lX17_init bX17_init_0 0 := xo_0 dX17_init_0 rfl trivial (xo_0 dX17_init_1 rfl trivial (xo_0 dX17_init_2 rfl trivial (xo_c rfl (cv_X4_init dX17_init_3 (Or.inl q1476) (by decide)) (xo_0 dX17_init_6 rfl trivial (xo_n)))))
theorem oX17_init  : ∀ q ∈ kX17_init, xm_okb cI RX17 cX17_init true 3 lX17_init q.2 q.1 := by
  intro q hq
  simp only [List.mem_cons, List.not_mem_nil, or_false] at hq
  subst hq
  exact oX17_init_0  
def S_X17_init : xS := S_two 13
theorem rec_X17_init : ∀ as w K KX, S_X17_init as w K KX → ∃ a as', as = .ref a :: as' := rec_two
theorem body_X17_init : xm_Body 3 2 0 0 [] lX17_init kX17_init S_X17_init := by
  intro X avs w Q QX hX0 hS
  have hG := xm_go [] hX0
  have hX := xm_go [] hX0
  clear hX0
  obtain ⟨a, x, y, rfl, ha, hQ⟩ := hS
  refine ⟨rfl, ?_⟩
  repeat' (first
    | ((with_reducible refine @And.intro (vp_in _ _) _ ?_ ?_); (· (first | with_reducible assumption | ((with_reducible refine t_vin ?_); decide) | ((with_reducible refine vp_in_nI ?_ ?_) <;> first | omega | decide) | (simp (disch := omega) only [xl_n, xl_m, nI_dec, nI_sb, nI_add, pk_mul]; (with_reducible refine vp_in_nI ?_ ?_) <;> first | omega | decide))); (conv => whnf))
    | (refine And.intro (by first | with_reducible assumption | exact (show cL _ _ = _ from rfl) | decide) ?_; (conv => whnf))
    | ((with_reducible refine @And.intro (_ = _) _ ?_ ?_); (· rfl); (conv => whnf))
    | ((with_reducible refine @And.intro (@LE.le Nat _ _ _) _ ?_ ?_); (· (first | exact Nat.zero_le _ | exact Nat.le_of_ble_eq_true rfl | omega)); (conv => whnf))
    | ((with_reducible refine @And.intro (@LT.lt Nat _ _ _) _ ?_ ?_); (· omega); (conv => whnf))
    | ((with_reducible refine @And.intro (∃ _, _ = _) _ ?_ ?_); (· exact ⟨_, rfl⟩); (conv => whnf))
    | ((with_reducible refine @And.intro (_ ∨ _) _ ?_ ?_); (· (first | exact Or.inl rfl | exact Or.inr rfl | exact t_b01 _ | assumption)); (conv => whnf))
    | ((with_reducible refine @And.intro (¬ (_ = _)) _ ?_ ?_); (· first | assumption | (with_reducible assumption)); (conv => whnf))
    | (refine hX _ _ _ _ _ _ ?_; (conv => whnf); fail_if_success show False)
    | (rw [c_si]; (conv => whnf))
    | (refine ⟨_, rfl, ?_⟩; (conv => whnf))
    | (refine ⟨_, _, rfl, ?_⟩; (conv => whnf))
    | (refine ⟨_, _, _, rfl, ?_⟩; (conv => whnf))
    | (refine ⟨_, _, _, _, rfl, ?_⟩; (conv => whnf))
    | (refine ⟨13,(by simp [c_two2]),a,x,y,rfl,ha,?_⟩; (conv => whnf))
    | (refine And.intro (fun c => ?_) (fun c => ?_) <;> (first | (exact absurd c (by decide +kernel)) | (conv => whnf)))
    | fail)
  exact hQ
theorem ct_X17_init : xm_Ct cI yX17_init (ws_ yX17_init cX17_init 3 none) 3 0 0 S_X17_init := xm_enter (rt := 2) (init := true) (by decide +kernel) rfl (fun h => by rfl) (Or.inr (Or.inr (Or.inl ⟨rfl, rfl⟩))) (oX17_init) body_X17_init
theorem cv_X17_init {own : String} {cc : ByteArray} {fr pc idx : Nat} (hdg : decode cc pc = .ok (.invokespecial idx, 3)) (hl : xm_ml own idx yX17_init) (hfr : 3 < fr) : xm_CallOK cI own cc fr pc (pc + 3) 3 0 0 S_X17_init := xm_callI cI_good (ct_X17_init) hdg hl q1474 q151 q1475 rfl rec_X17_init (by decide +kernel) hfr (by decide)
abbrev bX18_init_0 : List xE := [(.aload_n 0, 1, 0, 0, 0), (.aload_n 1, 2, 0, 0, 0), (.aload_n 2, 3, 0, 0, 0), (.invokespecial 1, 6, 0, 0, 9), (.return_, 7, 0, 0, 0)]
abbrev kX18_init : List (Nat × List xE) := [(0, bX18_init_0)]
abbrev lX18_init : List (Nat × Nat × Nat × xS) := [(3, 0, 0, S_X4_init)]
theorem oX18_init_0  : xm_okb cI RX18 cX18_init true 3 lX18_init bX18_init_0 0 := xo_0 dX18_init_0 rfl trivial (xo_0 dX18_init_1 rfl trivial (xo_0 dX18_init_2 rfl trivial (xo_c rfl (cv_X4_init dX18_init_3 (Or.inl q1485) (by decide)) (xo_0 dX18_init_6 rfl trivial (xo_n)))))
theorem oX18_init  : ∀ q ∈ kX18_init, xm_okb cI RX18 cX18_init true 3 lX18_init q.2 q.1 := by
  intro q hq
  simp only [List.mem_cons, List.not_mem_nil, or_false] at hq
  subst hq
  exact oX18_init_0  
def S_X18_init : xS := S_two 14
theorem rec_X18_init : ∀ as w K KX, S_X18_init as w K KX → ∃ a as', as = .ref a :: as' := rec_two
theorem body_X18_init : xm_Body 3 2 0 0 [] lX18_init kX18_init S_X18_init := by
  intro X avs w Q QX hX0 hS
  have hG := xm_go [] hX0
  have hX := xm_go [] hX0
  clear hX0
  obtain ⟨a, x, y, rfl, ha, hQ⟩ := hS
  refine ⟨rfl, ?_⟩
  repeat' (first
    | ((with_reducible refine @And.intro (vp_in _ _) _ ?_ ?_); (· (first | with_reducible assumption | ((with_reducible refine t_vin ?_); decide) | ((with_reducible refine vp_in_nI ?_ ?_) <;> first | omega | decide) | (simp (disch := omega) only [xl_n, xl_m, nI_dec, nI_sb, nI_add, pk_mul]; (with_reducible refine vp_in_nI ?_ ?_) <;> first | omega | decide))); (conv => whnf))
    | (refine And.intro (by first | with_reducible assumption | exact (show cL _ _ = _ from rfl) | decide) ?_; (conv => whnf))
    | ((with_reducible refine @And.intro (_ = _) _ ?_ ?_); (· rfl); (conv => whnf))
    | ((with_reducible refine @And.intro (@LE.le Nat _ _ _) _ ?_ ?_); (· (first | exact Nat.zero_le _ | exact Nat.le_of_ble_eq_true rfl | omega)); (conv => whnf))
    | ((with_reducible refine @And.intro (@LT.lt Nat _ _ _) _ ?_ ?_); (· omega); (conv => whnf))
    | ((with_reducible refine @And.intro (∃ _, _ = _) _ ?_ ?_); (· exact ⟨_, rfl⟩); (conv => whnf))
    | ((with_reducible refine @And.intro (_ ∨ _) _ ?_ ?_); (· (first | exact Or.inl rfl | exact Or.inr rfl | exact t_b01 _ | assumption)); (conv => whnf))
    | ((with_reducible refine @And.intro (¬ (_ = _)) _ ?_ ?_); (· first | assumption | (with_reducible assumption)); (conv => whnf))
    | (refine hX _ _ _ _ _ _ ?_; (conv => whnf); fail_if_success show False)
    | (rw [c_si]; (conv => whnf))
    | (refine ⟨_, rfl, ?_⟩; (conv => whnf))
    | (refine ⟨_, _, rfl, ?_⟩; (conv => whnf))
    | (refine ⟨_, _, _, rfl, ?_⟩; (conv => whnf))
    | (refine ⟨_, _, _, _, rfl, ?_⟩; (conv => whnf))
    | (refine ⟨14,(by simp [c_two2]),a,x,y,rfl,ha,?_⟩; (conv => whnf))
    | (refine And.intro (fun c => ?_) (fun c => ?_) <;> (first | (exact absurd c (by decide +kernel)) | (conv => whnf)))
    | fail)
  exact hQ
theorem ct_X18_init : xm_Ct cI yX18_init (ws_ yX18_init cX18_init 3 none) 3 0 0 S_X18_init := xm_enter (rt := 2) (init := true) (by decide +kernel) rfl (fun h => by rfl) (Or.inr (Or.inr (Or.inl ⟨rfl, rfl⟩))) (oX18_init) body_X18_init
theorem cv_X18_init {own : String} {cc : ByteArray} {fr pc idx : Nat} (hdg : decode cc pc = .ok (.invokespecial idx, 3)) (hl : xm_ml own idx yX18_init) (hfr : 3 < fr) : xm_CallOK cI own cc fr pc (pc + 3) 3 0 0 S_X18_init := xm_callI cI_good (ct_X18_init) hdg hl q1483 q152 q1484 rfl rec_X18_init (by decide +kernel) hfr (by decide)
abbrev bX19_init_0 : List xE := [(.aload_n 0, 1, 0, 0, 0), (.aload_n 1, 2, 0, 0, 0), (.aload_n 2, 3, 0, 0, 0), (.invokespecial 1, 6, 0, 0, 9), (.return_, 7, 0, 0, 0)]
abbrev kX19_init : List (Nat × List xE) := [(0, bX19_init_0)]
abbrev lX19_init : List (Nat × Nat × Nat × xS) := [(3, 0, 0, S_X4_init)]
theorem oX19_init_0  : xm_okb cI RX19 cX19_init true 3 lX19_init bX19_init_0 0 := xo_0 dX19_init_0 rfl trivial (xo_0 dX19_init_1 rfl trivial (xo_0 dX19_init_2 rfl trivial (xo_c rfl (cv_X4_init dX19_init_3 (Or.inl q1499) (by decide)) (xo_0 dX19_init_6 rfl trivial (xo_n)))))
theorem oX19_init  : ∀ q ∈ kX19_init, xm_okb cI RX19 cX19_init true 3 lX19_init q.2 q.1 := by
  intro q hq
  simp only [List.mem_cons, List.not_mem_nil, or_false] at hq
  subst hq
  exact oX19_init_0  
def S_X19_init : xS := S_two 15
theorem rec_X19_init : ∀ as w K KX, S_X19_init as w K KX → ∃ a as', as = .ref a :: as' := rec_two
theorem body_X19_init : xm_Body 3 2 0 0 [] lX19_init kX19_init S_X19_init := by
  intro X avs w Q QX hX0 hS
  have hG := xm_go [] hX0
  have hX := xm_go [] hX0
  clear hX0
  obtain ⟨a, x, y, rfl, ha, hQ⟩ := hS
  refine ⟨rfl, ?_⟩
  repeat' (first
    | ((with_reducible refine @And.intro (vp_in _ _) _ ?_ ?_); (· (first | with_reducible assumption | ((with_reducible refine t_vin ?_); decide) | ((with_reducible refine vp_in_nI ?_ ?_) <;> first | omega | decide) | (simp (disch := omega) only [xl_n, xl_m, nI_dec, nI_sb, nI_add, pk_mul]; (with_reducible refine vp_in_nI ?_ ?_) <;> first | omega | decide))); (conv => whnf))
    | (refine And.intro (by first | with_reducible assumption | exact (show cL _ _ = _ from rfl) | decide) ?_; (conv => whnf))
    | ((with_reducible refine @And.intro (_ = _) _ ?_ ?_); (· rfl); (conv => whnf))
    | ((with_reducible refine @And.intro (@LE.le Nat _ _ _) _ ?_ ?_); (· (first | exact Nat.zero_le _ | exact Nat.le_of_ble_eq_true rfl | omega)); (conv => whnf))
    | ((with_reducible refine @And.intro (@LT.lt Nat _ _ _) _ ?_ ?_); (· omega); (conv => whnf))
    | ((with_reducible refine @And.intro (∃ _, _ = _) _ ?_ ?_); (· exact ⟨_, rfl⟩); (conv => whnf))
    | ((with_reducible refine @And.intro (_ ∨ _) _ ?_ ?_); (· (first | exact Or.inl rfl | exact Or.inr rfl | exact t_b01 _ | assumption)); (conv => whnf))
    | ((with_reducible refine @And.intro (¬ (_ = _)) _ ?_ ?_); (· first | assumption | (with_reducible assumption)); (conv => whnf))
    | (refine hX _ _ _ _ _ _ ?_; (conv => whnf); fail_if_success show False)
    | (rw [c_si]; (conv => whnf))
    | (refine ⟨_, rfl, ?_⟩; (conv => whnf))
    | (refine ⟨_, _, rfl, ?_⟩; (conv => whnf))
    | (refine ⟨_, _, _, rfl, ?_⟩; (conv => whnf))
    | (refine ⟨_, _, _, _, rfl, ?_⟩; (conv => whnf))
    | (refine ⟨15,(by simp [c_two2]),a,x,y,rfl,ha,?_⟩; (conv => whnf))
    | (refine And.intro (fun c => ?_) (fun c => ?_) <;> (first | (exact absurd c (by decide +kernel)) | (conv => whnf)))
    | fail)
  exact hQ
theorem ct_X19_init : xm_Ct cI yX19_init (ws_ yX19_init cX19_init 3 none) 3 0 0 S_X19_init := xm_enter (rt := 2) (init := true) (by decide +kernel) rfl (fun h => by rfl) (Or.inr (Or.inr (Or.inl ⟨rfl, rfl⟩))) (oX19_init) body_X19_init
theorem cv_X19_init {own : String} {cc : ByteArray} {fr pc idx : Nat} (hdg : decode cc pc = .ok (.invokespecial idx, 3)) (hl : xm_ml own idx yX19_init) (hfr : 3 < fr) : xm_CallOK cI own cc fr pc (pc + 3) 3 0 0 S_X19_init := xm_callI cI_good (ct_X19_init) hdg hl q1497 q153 q1498 rfl rec_X19_init (by decide +kernel) hfr (by decide)
abbrev bX20_init_0 : List xE := [(.aload_n 0, 1, 0, 0, 0), (.aload_n 1, 2, 0, 0, 0), (.aload_n 2, 3, 0, 0, 0), (.invokespecial 1, 6, 0, 0, 9), (.return_, 7, 0, 0, 0)]
abbrev kX20_init : List (Nat × List xE) := [(0, bX20_init_0)]
abbrev lX20_init : List (Nat × Nat × Nat × xS) := [(3, 0, 0, S_X4_init)]
theorem oX20_init_0  : xm_okb cI RX20 cX20_init true 3 lX20_init bX20_init_0 0 := xo_0 dX20_init_0 rfl trivial (xo_0 dX20_init_1 rfl trivial (xo_0 dX20_init_2 rfl trivial (xo_c rfl (cv_X4_init dX20_init_3 (Or.inl q1508) (by decide)) (xo_0 dX20_init_6 rfl trivial (xo_n)))))
theorem oX20_init  : ∀ q ∈ kX20_init, xm_okb cI RX20 cX20_init true 3 lX20_init q.2 q.1 := by
  intro q hq
  simp only [List.mem_cons, List.not_mem_nil, or_false] at hq
  subst hq
  exact oX20_init_0  
def S_X20_init : xS := S_two 16
theorem rec_X20_init : ∀ as w K KX, S_X20_init as w K KX → ∃ a as', as = .ref a :: as' := rec_two
theorem body_X20_init : xm_Body 3 2 0 0 [] lX20_init kX20_init S_X20_init := by
  intro X avs w Q QX hX0 hS
  have hG := xm_go [] hX0
  have hX := xm_go [] hX0
  clear hX0
  obtain ⟨a, x, y, rfl, ha, hQ⟩ := hS
  refine ⟨rfl, ?_⟩
  repeat' (first
    | ((with_reducible refine @And.intro (vp_in _ _) _ ?_ ?_); (· (first | with_reducible assumption | ((with_reducible refine t_vin ?_); decide) | ((with_reducible refine vp_in_nI ?_ ?_) <;> first | omega | decide) | (simp (disch := omega) only [xl_n, xl_m, nI_dec, nI_sb, nI_add, pk_mul]; (with_reducible refine vp_in_nI ?_ ?_) <;> first | omega | decide))); (conv => whnf))
    | (refine And.intro (by first | with_reducible assumption | exact (show cL _ _ = _ from rfl) | decide) ?_; (conv => whnf))
    | ((with_reducible refine @And.intro (_ = _) _ ?_ ?_); (· rfl); (conv => whnf))
    | ((with_reducible refine @And.intro (@LE.le Nat _ _ _) _ ?_ ?_); (· (first | exact Nat.zero_le _ | exact Nat.le_of_ble_eq_true rfl | omega)); (conv => whnf))
    | ((with_reducible refine @And.intro (@LT.lt Nat _ _ _) _ ?_ ?_); (· omega); (conv => whnf))
    | ((with_reducible refine @And.intro (∃ _, _ = _) _ ?_ ?_); (· exact ⟨_, rfl⟩); (conv => whnf))
    | ((with_reducible refine @And.intro (_ ∨ _) _ ?_ ?_); (· (first | exact Or.inl rfl | exact Or.inr rfl | exact t_b01 _ | assumption)); (conv => whnf))
    | ((with_reducible refine @And.intro (¬ (_ = _)) _ ?_ ?_); (· first | assumption | (with_reducible assumption)); (conv => whnf))
    | (refine hX _ _ _ _ _ _ ?_; (conv => whnf); fail_if_success show False)
    | (rw [c_si]; (conv => whnf))
    | (refine ⟨_, rfl, ?_⟩; (conv => whnf))
    | (refine ⟨_, _, rfl, ?_⟩; (conv => whnf))
    | (refine ⟨_, _, _, rfl, ?_⟩; (conv => whnf))
    | (refine ⟨_, _, _, _, rfl, ?_⟩; (conv => whnf))
    | (refine ⟨16,(by simp [c_two2]),a,x,y,rfl,ha,?_⟩; (conv => whnf))
    | (refine And.intro (fun c => ?_) (fun c => ?_) <;> (first | (exact absurd c (by decide +kernel)) | (conv => whnf)))
    | fail)
  exact hQ
theorem ct_X20_init : xm_Ct cI yX20_init (ws_ yX20_init cX20_init 3 none) 3 0 0 S_X20_init := xm_enter (rt := 2) (init := true) (by decide +kernel) rfl (fun h => by rfl) (Or.inr (Or.inr (Or.inl ⟨rfl, rfl⟩))) (oX20_init) body_X20_init
theorem cv_X20_init {own : String} {cc : ByteArray} {fr pc idx : Nat} (hdg : decode cc pc = .ok (.invokespecial idx, 3)) (hl : xm_ml own idx yX20_init) (hfr : 3 < fr) : xm_CallOK cI own cc fr pc (pc + 3) 3 0 0 S_X20_init := xm_callI cI_good (ct_X20_init) hdg hl q1506 q154 q1507 rfl rec_X20_init (by decide +kernel) hfr (by decide)
/-- what was is still there -/
def x_ext (w w' : xW) : Prop := (∀ b, w.1 b ≠ none → w'.1 b = w.1 b ∧ w'.2.1 b = w.2.1 b ∧ w'.2.2.1 b = w.2.2.1 b) ∧ (∀ b, b < 1000 → w'.1 b = w.1 b ∧ w'.2.1 b = w.2.1 b ∧ w'.2.2.1 b = w.2.2.1 b) ∧ (w.2.2.2 = (fun _ _ => 0) → w'.2.2.2 = fun _ _ => 0)
theorem x_ext.rf {w : xW} : x_ext w w := ⟨fun _ _ => ⟨rfl, rfl, rfl⟩, fun _ _ => ⟨rfl, rfl, rfl⟩, id⟩
theorem x_ext.tr {w w' w'' : xW} (h : x_ext w w') (h2 : x_ext w' w'') : x_ext w w'' := by
  refine ⟨fun b hb => ?_, fun b hb => ?_, fun z => h2.2.2 (h.2.2 z)⟩
  · obtain ⟨a1, a2, a3⟩ := h.1 b hb
    obtain ⟨b1, b2, b3⟩ := h2.1 b (by rw [a1]; exact hb)
    exact ⟨b1.trans a1, b2.trans a2, b3.trans a3⟩
  · obtain ⟨a1, a2, a3⟩ := h.2.1 b hb
    obtain ⟨b1, b2, b3⟩ := h2.2.1 b hb
    exact ⟨b1.trans a1, b2.trans a2, b3.trans a3⟩
theorem x_ext.nw {w : xW} {a t n : Nat} (h : w.1 a = none) (ha : 1000 ≤ a) : x_ext w (xm_nw w a t n) := by
  have key : ∀ b, b ≠ a → (xm_nw w a t n).1 b = w.1 b ∧ (xm_nw w a t n).2.1 b = w.2.1 b ∧ (xm_nw w a t n).2.2.1 b = w.2.2.1 b := fun b hb => ⟨if_neg hb, funext fun k => if_neg hb, funext fun k => if_neg hb⟩
  refine ⟨fun b hb => key b fun e => hb (by rw [e]; exact h), fun b hb => key b (by omega), fun z => ?_⟩
  show xm_ua w.2.2.2 a 0 = _
  rw [z]
  funext b k
  show (if b = a then 0 else 0) = _
  split <;> rfl
theorem x_ext.si {w w' : xW} {a k : Nat} {v : Int32} (h : x_ext w w') (hn : w.1 a = none) (ha : 1000 ≤ a) : x_ext w (xm_si w' a k v) := by
  have key : ∀ b, b ≠ a → (xm_si w' a k v).2.1 b = w'.2.1 b := fun b hb => funext fun j => if_neg fun q => hb q.1
  refine ⟨fun b hb => ?_, fun b hb => ?_, h.2.2⟩
  · obtain ⟨a1, a2, a3⟩ := h.1 b hb
    exact ⟨a1, (key b fun e => hb (by rw [e]; exact hn)).trans a2, a3⟩
  · obtain ⟨a1, a2, a3⟩ := h.2.1 b hb
    exact ⟨a1, (key b (by omega)).trans a2, a3⟩
theorem x_ext.sr {w w' : xW} {a k : Nat} {v : Option Nat} (h : x_ext w w') (hn : w.1 a = none) (ha : 1000 ≤ a) : x_ext w (xm_sr w' a k v) := by
  have key : ∀ b, b ≠ a → (xm_sr w' a k v).2.2.1 b = w'.2.2.1 b := fun b hb => funext fun j => if_neg fun q => hb q.1
  refine ⟨fun b hb => ?_, fun b hb => ?_, h.2.2⟩
  · obtain ⟨a1, a2, a3⟩ := h.1 b hb
    exact ⟨a1, a2, (key b fun e => hb (by rw [e]; exact hn)).trans a3⟩
  · obtain ⟨a1, a2, a3⟩ := h.2.1 b hb
    exact ⟨a1, a2, (key b (by omega)).trans a3⟩
theorem x_ext.rep {w w' : xW} (h : x_ext w w') {d a : Nat} {L : List lC} (hr : c_rep d w a L) : c_rep d w' a L := c_rep_eq (fun b _ hb => h.1 b hb) hr
/-- the law at the start -/
def l_cus : List lC := [(nI 1, nI 0), (nI 0, nI 2), (nI 4, nI 0), (nI 1, nI 3), (nI 0, nI 3), (nI 4, nI 0), (nI 3, nI 0), (nI 1, nI 8), (nI 2, nI 0)]
/-- a leaf, made new -/
theorem c_leafF {w : xW} {a j d : Nat} (ha : 1000 ≤ a) (hj : j < 9) : c_rep (d + 1) (xm_si (xm_nw w a 5 1) a 0 (nI j)) a [(nI 1, nI j)] := ⟨ha, Or.inr (Or.inl ⟨j, hj, by rw [xi_1, xn_1, if_pos rfl], by rw [xi_2, if_pos ⟨rfl, rfl⟩], rfl⟩)⟩
theorem c_leafP {w : xW} {a d : Nat} {v : Int32} (ha : 1000 ≤ a) : c_rep (d + 1) (xm_si (xm_nw w a 6 1) a 0 v) a [(nI 0, v)] := ⟨ha, Or.inl ⟨v, by rw [xi_1, xn_1, if_pos rfl], by rw [xi_2, if_pos ⟨rfl, rfl⟩], rfl⟩⟩
/-- a term of two, made new of two parts -/
theorem c_nodeN {w : xW} {a z d x y : Nat} {A B : List lC} (hf : w.1 a = none) (ha : 1000 ≤ a) (h2 : 2 ≤ z) (h8 : z ≤ 8) (hx : c_rep d w x A) (hy : c_rep d w y B) : c_rep (d + 1) (xm_sr (xm_sr (xm_nw w a (c_tg z) 2) a 0 (some x)) a 1 (some y)) a (A ++ B ++ [(nI z, nI 0)]) := by
  have he : x_ext w (xm_sr (xm_sr (xm_nw w a (c_tg z) 2) a 0 (some x)) a 1 (some y)) := ((x_ext.nw hf ha).sr hf ha).sr hf ha
  refine ⟨ha, Or.inr (Or.inr ⟨z, A, B, x, y, h2, h8, ?_, ?_, ?_, he.rep hx, he.rep hy, rfl⟩)⟩
  · rw [xr_1, xr_1, xn_1, if_pos rfl]
  · rw [xr_3, if_neg (by omega), xr_3, if_pos ⟨rfl, rfl⟩]
  · rw [xr_3, if_pos ⟨rfl, rfl⟩]
theorem x_new_ne {w : xW} {a b : Nat} (h : w.1 a = none) (hb : ∃ z, w.1 b = some z) : a ≠ b := fun e => by
  obtain ⟨z, hz⟩ := hb
  rw [← e, h] at hz
  cases hz
abbrev bX1_custom_0 : List xE := [(.new 3, 3, 2, 2, 0), (.dup, 4, 0, 0, 0), (.new 5, 7, 3, 2, 0), (.dup, 8, 0, 0, 0), (.new 7, 11, 4, 2, 0), (.dup, 12, 0, 0, 0), (.new 9, 15, 5, 1, 0), (.dup, 16, 0, 0, 0), (.iconst 0, 17, 0, 0, 0), (.invokespecial 11, 20, 0, 0, 9), (.new 15, 23, 6, 1, 0), (.dup, 24, 0, 0, 0), (.iconst 2, 25, 0, 0, 0), (.invokespecial 17, 28, 0, 1, 9), (.invokespecial 18, 31, 0, 2, 9), (.new 7, 34, 4, 2, 0), (.dup, 35, 0, 0, 0), (.new 9, 38, 5, 1, 0), (.dup, 39, 0, 0, 0), (.iconst 3, 40, 0, 0, 0), (.invokespecial 11, 43, 0, 0, 9), (.new 15, 46, 6, 1, 0), (.dup, 47, 0, 0, 0), (.iconst 3, 48, 0, 0, 0), (.invokespecial 17, 51, 0, 1, 9), (.invokespecial 18, 54, 0, 2, 9), (.invokespecial 21, 57, 0, 3, 9), (.new 9, 60, 5, 1, 0), (.dup, 61, 0, 0, 0), (.bipush 8, 63, 0, 0, 0), (.invokespecial 11, 66, 0, 0, 9), (.invokespecial 22, 69, 0, 4, 9), (.areturn, 70, 0, 0, 0)]
abbrev kX1_custom : List (Nat × List xE) := [(0, bX1_custom_0)]
abbrev lX1_custom : List (Nat × Nat × Nat × xS) := [(2, 0, 0, S_X8_init), (2, 0, 0, S_X9_init), (3, 0, 0, S_X7_init), (3, 0, 0, S_X6_init), (3, 0, 0, S_X5_init)]
theorem oX1_custom_0  : xm_okb cI RX1 cX1_custom false 4 lX1_custom bX1_custom_0 0 := xo_0 dX1_custom_0 rfl ⟨_, _, rfl, q599, q600, q139⟩ (xo_0 dX1_custom_3 rfl trivial (xo_0 dX1_custom_4 rfl ⟨_, _, rfl, q601, q602, q140⟩ (xo_0 dX1_custom_7 rfl trivial (xo_0 dX1_custom_8 rfl ⟨_, _, rfl, q603, q604, q141⟩ (xo_0 dX1_custom_11 rfl trivial (xo_0 dX1_custom_12 rfl ⟨_, _, rfl, q605, q606, q142⟩ (xo_0 dX1_custom_15 rfl trivial (xo_0 dX1_custom_16 rfl trivial (xo_c rfl (cv_X8_init dX1_custom_17 (Or.inl q607) (by decide)) (xo_0 dX1_custom_20 rfl ⟨_, _, rfl, q618, q619, q143⟩ (xo_0 dX1_custom_23 rfl trivial (xo_0 dX1_custom_24 rfl trivial (xo_c rfl (cv_X9_init dX1_custom_25 (Or.inl q620) (by decide)) (xo_c rfl (cv_X7_init dX1_custom_28 (Or.inl q628) (by decide)) (xo_0 dX1_custom_31 rfl ⟨_, _, rfl, q603, q604, q141⟩ (xo_0 dX1_custom_34 rfl trivial (xo_0 dX1_custom_35 rfl ⟨_, _, rfl, q605, q606, q142⟩ (xo_0 dX1_custom_38 rfl trivial (xo_0 dX1_custom_39 rfl trivial (xo_c rfl (cv_X8_init dX1_custom_40 (Or.inl q607) (by decide)) (xo_0 dX1_custom_43 rfl ⟨_, _, rfl, q618, q619, q143⟩ (xo_0 dX1_custom_46 rfl trivial (xo_0 dX1_custom_47 rfl trivial (xo_c rfl (cv_X9_init dX1_custom_48 (Or.inl q620) (by decide)) (xo_c rfl (cv_X7_init dX1_custom_51 (Or.inl q628) (by decide)) (xo_c rfl (cv_X6_init dX1_custom_54 (Or.inl q642) (by decide)) (xo_0 dX1_custom_57 rfl ⟨_, _, rfl, q605, q606, q142⟩ (xo_0 dX1_custom_60 rfl trivial (xo_0 dX1_custom_61 rfl (xo_bipush (by decide +kernel)) (xo_c rfl (cv_X8_init dX1_custom_63 (Or.inl q607) (by decide)) (xo_c rfl (cv_X5_init dX1_custom_66 (Or.inl q649) (by decide)) (xo_0 dX1_custom_69 rfl trivial (xo_n)))))))))))))))))))))))))))))))))
theorem oX1_custom  : ∀ q ∈ kX1_custom, xm_okb cI RX1 cX1_custom false 4 lX1_custom q.2 q.1 := by
  intro q hq
  simp only [List.mem_cons, List.not_mem_nil, or_false] at hq
  subst hq
  exact oX1_custom_0  
def S_X1_custom : xS := fun as w Q _ => as = [] ∧ ∀ w' a, x_ext w w' → c_rep 9 w' a l_cus → Q (some (.ref a)) w'
theorem body_X1_custom : xm_Body 0 3 9 13 [] lX1_custom kX1_custom S_X1_custom := by
  intro X avs w Q QX hX0 hS
  have hG := xm_go [] hX0
  have hX := xm_go [] hX0
  clear hX0
  obtain ⟨rfl, hQ⟩ := hS
  refine ⟨rfl, ?_⟩
  repeat' (first
    | ((with_reducible refine @And.intro (vp_in _ _) _ ?_ ?_); (· (first | with_reducible assumption | ((with_reducible refine t_vin ?_); decide) | ((with_reducible refine vp_in_nI ?_ ?_) <;> first | omega | decide) | (simp (disch := omega) only [xl_n, xl_m, nI_dec, nI_sb, nI_add, pk_mul]; (with_reducible refine vp_in_nI ?_ ?_) <;> first | omega | decide))); (conv => whnf))
    | (refine And.intro (by first | with_reducible assumption | exact (show cL _ _ = _ from rfl) | decide) ?_; (conv => whnf))
    | ((with_reducible refine @And.intro (_ = _) _ ?_ ?_); (· rfl); (conv => whnf))
    | ((with_reducible refine @And.intro (@LE.le Nat _ _ _) _ ?_ ?_); (· (first | exact Nat.zero_le _ | exact Nat.le_of_ble_eq_true rfl | omega)); (conv => whnf))
    | ((with_reducible refine @And.intro (@LT.lt Nat _ _ _) _ ?_ ?_); (· omega); (conv => whnf))
    | ((with_reducible refine @And.intro (∃ _, _ = _) _ ?_ ?_); (· exact ⟨_, rfl⟩); (conv => whnf))
    | ((with_reducible refine @And.intro (_ ∨ _) _ ?_ ?_); (· (first | exact Or.inl rfl | exact Or.inr rfl | exact t_b01 _ | assumption)); (conv => whnf))
    | ((with_reducible refine @And.intro (¬ (_ = _)) _ ?_ ?_); (· first | assumption | (with_reducible assumption)); (conv => whnf))
    | (refine hX _ _ _ _ _ _ ?_; (conv => whnf); fail_if_success show False)
    | (rw [c_si]; (conv => whnf))
    | (refine ⟨_, rfl, ?_⟩; (conv => whnf))
    | (refine ⟨_, _, rfl, ?_⟩; (conv => whnf))
    | (refine ⟨_, _, _, rfl, ?_⟩; (conv => whnf))
    | (refine ⟨_, _, _, _, rfl, ?_⟩; (conv => whnf))
    | (refine And.intro (by simp [xr_1,xi_1,xn_1]) ?_; (conv => whnf))
    | fail)
  intro a1 f1 g1
  (conv => whnf)
  repeat' (first
    | ((with_reducible refine @And.intro (vp_in _ _) _ ?_ ?_); (· (first | with_reducible assumption | ((with_reducible refine t_vin ?_); decide) | ((with_reducible refine vp_in_nI ?_ ?_) <;> first | omega | decide) | (simp (disch := omega) only [xl_n, xl_m, nI_dec, nI_sb, nI_add, pk_mul]; (with_reducible refine vp_in_nI ?_ ?_) <;> first | omega | decide))); (conv => whnf))
    | (refine And.intro (by first | with_reducible assumption | exact (show cL _ _ = _ from rfl) | decide) ?_; (conv => whnf))
    | ((with_reducible refine @And.intro (_ = _) _ ?_ ?_); (· rfl); (conv => whnf))
    | ((with_reducible refine @And.intro (@LE.le Nat _ _ _) _ ?_ ?_); (· (first | exact Nat.zero_le _ | exact Nat.le_of_ble_eq_true rfl | omega)); (conv => whnf))
    | ((with_reducible refine @And.intro (@LT.lt Nat _ _ _) _ ?_ ?_); (· omega); (conv => whnf))
    | ((with_reducible refine @And.intro (∃ _, _ = _) _ ?_ ?_); (· exact ⟨_, rfl⟩); (conv => whnf))
    | ((with_reducible refine @And.intro (_ ∨ _) _ ?_ ?_); (· (first | exact Or.inl rfl | exact Or.inr rfl | exact t_b01 _ | assumption)); (conv => whnf))
    | ((with_reducible refine @And.intro (¬ (_ = _)) _ ?_ ?_); (· first | assumption | (with_reducible assumption)); (conv => whnf))
    | (refine hX _ _ _ _ _ _ ?_; (conv => whnf); fail_if_success show False)
    | (rw [c_si]; (conv => whnf))
    | (refine ⟨_, rfl, ?_⟩; (conv => whnf))
    | (refine ⟨_, _, rfl, ?_⟩; (conv => whnf))
    | (refine ⟨_, _, _, rfl, ?_⟩; (conv => whnf))
    | (refine ⟨_, _, _, _, rfl, ?_⟩; (conv => whnf))
    | (refine And.intro (by simp [xr_1,xi_1,xn_1]) ?_; (conv => whnf))
    | fail)
  intro a2 f2 g2
  (conv => whnf)
  have n2_1 : a2 ≠ a1 := fun e => by
    rw [e] at f2
    simp [xr_1, xi_1, xn_1] at f2
  repeat' (first
    | ((with_reducible refine @And.intro (vp_in _ _) _ ?_ ?_); (· (first | with_reducible assumption | ((with_reducible refine t_vin ?_); decide) | ((with_reducible refine vp_in_nI ?_ ?_) <;> first | omega | decide) | (simp (disch := omega) only [xl_n, xl_m, nI_dec, nI_sb, nI_add, pk_mul]; (with_reducible refine vp_in_nI ?_ ?_) <;> first | omega | decide))); (conv => whnf))
    | (refine And.intro (by first | with_reducible assumption | exact (show cL _ _ = _ from rfl) | decide) ?_; (conv => whnf))
    | ((with_reducible refine @And.intro (_ = _) _ ?_ ?_); (· rfl); (conv => whnf))
    | ((with_reducible refine @And.intro (@LE.le Nat _ _ _) _ ?_ ?_); (· (first | exact Nat.zero_le _ | exact Nat.le_of_ble_eq_true rfl | omega)); (conv => whnf))
    | ((with_reducible refine @And.intro (@LT.lt Nat _ _ _) _ ?_ ?_); (· omega); (conv => whnf))
    | ((with_reducible refine @And.intro (∃ _, _ = _) _ ?_ ?_); (· exact ⟨_, rfl⟩); (conv => whnf))
    | ((with_reducible refine @And.intro (_ ∨ _) _ ?_ ?_); (· (first | exact Or.inl rfl | exact Or.inr rfl | exact t_b01 _ | assumption)); (conv => whnf))
    | ((with_reducible refine @And.intro (¬ (_ = _)) _ ?_ ?_); (· first | assumption | (with_reducible assumption)); (conv => whnf))
    | (refine hX _ _ _ _ _ _ ?_; (conv => whnf); fail_if_success show False)
    | (rw [c_si]; (conv => whnf))
    | (refine ⟨_, rfl, ?_⟩; (conv => whnf))
    | (refine ⟨_, _, rfl, ?_⟩; (conv => whnf))
    | (refine ⟨_, _, _, rfl, ?_⟩; (conv => whnf))
    | (refine ⟨_, _, _, _, rfl, ?_⟩; (conv => whnf))
    | (refine And.intro (by simp [xr_1,xi_1,xn_1,n2_1,n2_1.symm]) ?_; (conv => whnf))
    | fail)
  intro a3 f3 g3
  (conv => whnf)
  have n3_2 : a3 ≠ a2 := fun e => by
    rw [e] at f3
    simp [xr_1, xi_1, xn_1, n2_1, n2_1.symm] at f3
  have n3_1 : a3 ≠ a1 := fun e => by
    rw [e] at f3
    simp [xr_1, xi_1, xn_1, n2_1, n2_1.symm] at f3
  repeat' (first
    | ((with_reducible refine @And.intro (vp_in _ _) _ ?_ ?_); (· (first | with_reducible assumption | ((with_reducible refine t_vin ?_); decide) | ((with_reducible refine vp_in_nI ?_ ?_) <;> first | omega | decide) | (simp (disch := omega) only [xl_n, xl_m, nI_dec, nI_sb, nI_add, pk_mul]; (with_reducible refine vp_in_nI ?_ ?_) <;> first | omega | decide))); (conv => whnf))
    | (refine And.intro (by first | with_reducible assumption | exact (show cL _ _ = _ from rfl) | decide) ?_; (conv => whnf))
    | ((with_reducible refine @And.intro (_ = _) _ ?_ ?_); (· rfl); (conv => whnf))
    | ((with_reducible refine @And.intro (@LE.le Nat _ _ _) _ ?_ ?_); (· (first | exact Nat.zero_le _ | exact Nat.le_of_ble_eq_true rfl | omega)); (conv => whnf))
    | ((with_reducible refine @And.intro (@LT.lt Nat _ _ _) _ ?_ ?_); (· omega); (conv => whnf))
    | ((with_reducible refine @And.intro (∃ _, _ = _) _ ?_ ?_); (· exact ⟨_, rfl⟩); (conv => whnf))
    | ((with_reducible refine @And.intro (_ ∨ _) _ ?_ ?_); (· (first | exact Or.inl rfl | exact Or.inr rfl | exact t_b01 _ | assumption)); (conv => whnf))
    | ((with_reducible refine @And.intro (¬ (_ = _)) _ ?_ ?_); (· first | assumption | (with_reducible assumption)); (conv => whnf))
    | (refine hX _ _ _ _ _ _ ?_; (conv => whnf); fail_if_success show False)
    | (rw [c_si]; (conv => whnf))
    | (refine ⟨_, rfl, ?_⟩; (conv => whnf))
    | (refine ⟨_, _, rfl, ?_⟩; (conv => whnf))
    | (refine ⟨_, _, _, rfl, ?_⟩; (conv => whnf))
    | (refine ⟨_, _, _, _, rfl, ?_⟩; (conv => whnf))
    | (refine And.intro (by simp [xr_1,xi_1,xn_1,n2_1,n3_1,n3_2,n2_1.symm,n3_1.symm,n3_2.symm]) ?_; (conv => whnf))
    | fail)
  intro a4 f4 g4
  (conv => whnf)
  have n4_3 : a4 ≠ a3 := fun e => by
    rw [e] at f4
    simp [xr_1, xi_1, xn_1, n2_1, n3_1, n3_2, n2_1.symm, n3_1.symm, n3_2.symm] at f4
  have n4_2 : a4 ≠ a2 := fun e => by
    rw [e] at f4
    simp [xr_1, xi_1, xn_1, n2_1, n3_1, n3_2, n2_1.symm, n3_1.symm, n3_2.symm] at f4
  have n4_1 : a4 ≠ a1 := fun e => by
    rw [e] at f4
    simp [xr_1, xi_1, xn_1, n2_1, n3_1, n3_2, n2_1.symm, n3_1.symm, n3_2.symm] at f4
  repeat' (first
    | ((with_reducible refine @And.intro (vp_in _ _) _ ?_ ?_); (· (first | with_reducible assumption | ((with_reducible refine t_vin ?_); decide) | ((with_reducible refine vp_in_nI ?_ ?_) <;> first | omega | decide) | (simp (disch := omega) only [xl_n, xl_m, nI_dec, nI_sb, nI_add, pk_mul]; (with_reducible refine vp_in_nI ?_ ?_) <;> first | omega | decide))); (conv => whnf))
    | (refine And.intro (by first | with_reducible assumption | exact (show cL _ _ = _ from rfl) | decide) ?_; (conv => whnf))
    | ((with_reducible refine @And.intro (_ = _) _ ?_ ?_); (· rfl); (conv => whnf))
    | ((with_reducible refine @And.intro (@LE.le Nat _ _ _) _ ?_ ?_); (· (first | exact Nat.zero_le _ | exact Nat.le_of_ble_eq_true rfl | omega)); (conv => whnf))
    | ((with_reducible refine @And.intro (@LT.lt Nat _ _ _) _ ?_ ?_); (· omega); (conv => whnf))
    | ((with_reducible refine @And.intro (∃ _, _ = _) _ ?_ ?_); (· exact ⟨_, rfl⟩); (conv => whnf))
    | ((with_reducible refine @And.intro (_ ∨ _) _ ?_ ?_); (· (first | exact Or.inl rfl | exact Or.inr rfl | exact t_b01 _ | assumption)); (conv => whnf))
    | ((with_reducible refine @And.intro (¬ (_ = _)) _ ?_ ?_); (· first | assumption | (with_reducible assumption)); (conv => whnf))
    | (refine hX _ _ _ _ _ _ ?_; (conv => whnf); fail_if_success show False)
    | (rw [c_si]; (conv => whnf))
    | (refine ⟨_, rfl, ?_⟩; (conv => whnf))
    | (refine ⟨_, _, rfl, ?_⟩; (conv => whnf))
    | (refine ⟨_, _, _, rfl, ?_⟩; (conv => whnf))
    | (refine ⟨_, _, _, _, rfl, ?_⟩; (conv => whnf))
    | (refine And.intro (by simp [xr_1,xi_1,xn_1,n2_1,n3_1,n3_2,n4_1,n4_2,n4_3,n2_1.symm,n3_1.symm,n3_2.symm,n4_1.symm,n4_2.symm,n4_3.symm]) ?_; (conv => whnf))
    | fail)
  intro a5 f5 g5
  (conv => whnf)
  have n5_4 : a5 ≠ a4 := fun e => by
    rw [e] at f5
    simp [xr_1, xi_1, xn_1, n2_1, n3_1, n3_2, n4_1, n4_2, n4_3, n2_1.symm, n3_1.symm, n3_2.symm, n4_1.symm, n4_2.symm, n4_3.symm] at f5
  have n5_3 : a5 ≠ a3 := fun e => by
    rw [e] at f5
    simp [xr_1, xi_1, xn_1, n2_1, n3_1, n3_2, n4_1, n4_2, n4_3, n2_1.symm, n3_1.symm, n3_2.symm, n4_1.symm, n4_2.symm, n4_3.symm] at f5
  have n5_2 : a5 ≠ a2 := fun e => by
    rw [e] at f5
    simp [xr_1, xi_1, xn_1, n2_1, n3_1, n3_2, n4_1, n4_2, n4_3, n2_1.symm, n3_1.symm, n3_2.symm, n4_1.symm, n4_2.symm, n4_3.symm] at f5
  have n5_1 : a5 ≠ a1 := fun e => by
    rw [e] at f5
    simp [xr_1, xi_1, xn_1, n2_1, n3_1, n3_2, n4_1, n4_2, n4_3, n2_1.symm, n3_1.symm, n3_2.symm, n4_1.symm, n4_2.symm, n4_3.symm] at f5
  repeat' (first
    | ((with_reducible refine @And.intro (vp_in _ _) _ ?_ ?_); (· (first | with_reducible assumption | ((with_reducible refine t_vin ?_); decide) | ((with_reducible refine vp_in_nI ?_ ?_) <;> first | omega | decide) | (simp (disch := omega) only [xl_n, xl_m, nI_dec, nI_sb, nI_add, pk_mul]; (with_reducible refine vp_in_nI ?_ ?_) <;> first | omega | decide))); (conv => whnf))
    | (refine And.intro (by first | with_reducible assumption | exact (show cL _ _ = _ from rfl) | decide) ?_; (conv => whnf))
    | ((with_reducible refine @And.intro (_ = _) _ ?_ ?_); (· rfl); (conv => whnf))
    | ((with_reducible refine @And.intro (@LE.le Nat _ _ _) _ ?_ ?_); (· (first | exact Nat.zero_le _ | exact Nat.le_of_ble_eq_true rfl | omega)); (conv => whnf))
    | ((with_reducible refine @And.intro (@LT.lt Nat _ _ _) _ ?_ ?_); (· omega); (conv => whnf))
    | ((with_reducible refine @And.intro (∃ _, _ = _) _ ?_ ?_); (· exact ⟨_, rfl⟩); (conv => whnf))
    | ((with_reducible refine @And.intro (_ ∨ _) _ ?_ ?_); (· (first | exact Or.inl rfl | exact Or.inr rfl | exact t_b01 _ | assumption)); (conv => whnf))
    | ((with_reducible refine @And.intro (¬ (_ = _)) _ ?_ ?_); (· first | assumption | (with_reducible assumption)); (conv => whnf))
    | (refine hX _ _ _ _ _ _ ?_; (conv => whnf); fail_if_success show False)
    | (rw [c_si]; (conv => whnf))
    | (refine ⟨_, rfl, ?_⟩; (conv => whnf))
    | (refine ⟨_, _, rfl, ?_⟩; (conv => whnf))
    | (refine ⟨_, _, _, rfl, ?_⟩; (conv => whnf))
    | (refine ⟨_, _, _, _, rfl, ?_⟩; (conv => whnf))
    | (refine And.intro (by simp [xr_1,xi_1,xn_1,n2_1,n3_1,n3_2,n4_1,n4_2,n4_3,n5_1,n5_2,n5_3,n5_4,n2_1.symm,n3_1.symm,n3_2.symm,n4_1.symm,n4_2.symm,n4_3.symm,n5_1.symm,n5_2.symm,n5_3.symm,n5_4.symm]) ?_; (conv => whnf))
    | fail)
  intro a6 f6 g6
  (conv => whnf)
  have n6_5 : a6 ≠ a5 := fun e => by
    rw [e] at f6
    simp [xr_1, xi_1, xn_1, n2_1, n3_1, n3_2, n4_1, n4_2, n4_3, n5_1, n5_2, n5_3, n5_4, n2_1.symm, n3_1.symm, n3_2.symm, n4_1.symm, n4_2.symm, n4_3.symm, n5_1.symm, n5_2.symm, n5_3.symm, n5_4.symm] at f6
  have n6_4 : a6 ≠ a4 := fun e => by
    rw [e] at f6
    simp [xr_1, xi_1, xn_1, n2_1, n3_1, n3_2, n4_1, n4_2, n4_3, n5_1, n5_2, n5_3, n5_4, n2_1.symm, n3_1.symm, n3_2.symm, n4_1.symm, n4_2.symm, n4_3.symm, n5_1.symm, n5_2.symm, n5_3.symm, n5_4.symm] at f6
  have n6_3 : a6 ≠ a3 := fun e => by
    rw [e] at f6
    simp [xr_1, xi_1, xn_1, n2_1, n3_1, n3_2, n4_1, n4_2, n4_3, n5_1, n5_2, n5_3, n5_4, n2_1.symm, n3_1.symm, n3_2.symm, n4_1.symm, n4_2.symm, n4_3.symm, n5_1.symm, n5_2.symm, n5_3.symm, n5_4.symm] at f6
  have n6_2 : a6 ≠ a2 := fun e => by
    rw [e] at f6
    simp [xr_1, xi_1, xn_1, n2_1, n3_1, n3_2, n4_1, n4_2, n4_3, n5_1, n5_2, n5_3, n5_4, n2_1.symm, n3_1.symm, n3_2.symm, n4_1.symm, n4_2.symm, n4_3.symm, n5_1.symm, n5_2.symm, n5_3.symm, n5_4.symm] at f6
  have n6_1 : a6 ≠ a1 := fun e => by
    rw [e] at f6
    simp [xr_1, xi_1, xn_1, n2_1, n3_1, n3_2, n4_1, n4_2, n4_3, n5_1, n5_2, n5_3, n5_4, n2_1.symm, n3_1.symm, n3_2.symm, n4_1.symm, n4_2.symm, n4_3.symm, n5_1.symm, n5_2.symm, n5_3.symm, n5_4.symm] at f6
  repeat' (first
    | ((with_reducible refine @And.intro (vp_in _ _) _ ?_ ?_); (· (first | with_reducible assumption | ((with_reducible refine t_vin ?_); decide) | ((with_reducible refine vp_in_nI ?_ ?_) <;> first | omega | decide) | (simp (disch := omega) only [xl_n, xl_m, nI_dec, nI_sb, nI_add, pk_mul]; (with_reducible refine vp_in_nI ?_ ?_) <;> first | omega | decide))); (conv => whnf))
    | (refine And.intro (by first | with_reducible assumption | exact (show cL _ _ = _ from rfl) | decide) ?_; (conv => whnf))
    | ((with_reducible refine @And.intro (_ = _) _ ?_ ?_); (· rfl); (conv => whnf))
    | ((with_reducible refine @And.intro (@LE.le Nat _ _ _) _ ?_ ?_); (· (first | exact Nat.zero_le _ | exact Nat.le_of_ble_eq_true rfl | omega)); (conv => whnf))
    | ((with_reducible refine @And.intro (@LT.lt Nat _ _ _) _ ?_ ?_); (· omega); (conv => whnf))
    | ((with_reducible refine @And.intro (∃ _, _ = _) _ ?_ ?_); (· exact ⟨_, rfl⟩); (conv => whnf))
    | ((with_reducible refine @And.intro (_ ∨ _) _ ?_ ?_); (· (first | exact Or.inl rfl | exact Or.inr rfl | exact t_b01 _ | assumption)); (conv => whnf))
    | ((with_reducible refine @And.intro (¬ (_ = _)) _ ?_ ?_); (· first | assumption | (with_reducible assumption)); (conv => whnf))
    | (refine hX _ _ _ _ _ _ ?_; (conv => whnf); fail_if_success show False)
    | (rw [c_si]; (conv => whnf))
    | (refine ⟨_, rfl, ?_⟩; (conv => whnf))
    | (refine ⟨_, _, rfl, ?_⟩; (conv => whnf))
    | (refine ⟨_, _, _, rfl, ?_⟩; (conv => whnf))
    | (refine ⟨_, _, _, _, rfl, ?_⟩; (conv => whnf))
    | (refine And.intro (by simp [xr_1,xi_1,xn_1,n2_1,n3_1,n3_2,n4_1,n4_2,n4_3,n5_1,n5_2,n5_3,n5_4,n6_1,n6_2,n6_3,n6_4,n6_5,n2_1.symm,n3_1.symm,n3_2.symm,n4_1.symm,n4_2.symm,n4_3.symm,n5_1.symm,n5_2.symm,n5_3.symm,n5_4.symm,n6_1.symm,n6_2.symm,n6_3.symm,n6_4.symm,n6_5.symm]) ?_; (conv => whnf))
    | fail)
  intro a7 f7 g7
  (conv => whnf)
  have n7_6 : a7 ≠ a6 := fun e => by
    rw [e] at f7
    simp [xr_1, xi_1, xn_1, n2_1, n3_1, n3_2, n4_1, n4_2, n4_3, n5_1, n5_2, n5_3, n5_4, n6_1, n6_2, n6_3, n6_4, n6_5, n2_1.symm, n3_1.symm, n3_2.symm, n4_1.symm, n4_2.symm, n4_3.symm, n5_1.symm, n5_2.symm, n5_3.symm, n5_4.symm, n6_1.symm, n6_2.symm, n6_3.symm, n6_4.symm, n6_5.symm] at f7
  have n7_5 : a7 ≠ a5 := fun e => by
    rw [e] at f7
    simp [xr_1, xi_1, xn_1, n2_1, n3_1, n3_2, n4_1, n4_2, n4_3, n5_1, n5_2, n5_3, n5_4, n6_1, n6_2, n6_3, n6_4, n6_5, n2_1.symm, n3_1.symm, n3_2.symm, n4_1.symm, n4_2.symm, n4_3.symm, n5_1.symm, n5_2.symm, n5_3.symm, n5_4.symm, n6_1.symm, n6_2.symm, n6_3.symm, n6_4.symm, n6_5.symm] at f7
  have n7_4 : a7 ≠ a4 := fun e => by
    rw [e] at f7
    simp [xr_1, xi_1, xn_1, n2_1, n3_1, n3_2, n4_1, n4_2, n4_3, n5_1, n5_2, n5_3, n5_4, n6_1, n6_2, n6_3, n6_4, n6_5, n2_1.symm, n3_1.symm, n3_2.symm, n4_1.symm, n4_2.symm, n4_3.symm, n5_1.symm, n5_2.symm, n5_3.symm, n5_4.symm, n6_1.symm, n6_2.symm, n6_3.symm, n6_4.symm, n6_5.symm] at f7
  have n7_3 : a7 ≠ a3 := fun e => by
    rw [e] at f7
    simp [xr_1, xi_1, xn_1, n2_1, n3_1, n3_2, n4_1, n4_2, n4_3, n5_1, n5_2, n5_3, n5_4, n6_1, n6_2, n6_3, n6_4, n6_5, n2_1.symm, n3_1.symm, n3_2.symm, n4_1.symm, n4_2.symm, n4_3.symm, n5_1.symm, n5_2.symm, n5_3.symm, n5_4.symm, n6_1.symm, n6_2.symm, n6_3.symm, n6_4.symm, n6_5.symm] at f7
  have n7_2 : a7 ≠ a2 := fun e => by
    rw [e] at f7
    simp [xr_1, xi_1, xn_1, n2_1, n3_1, n3_2, n4_1, n4_2, n4_3, n5_1, n5_2, n5_3, n5_4, n6_1, n6_2, n6_3, n6_4, n6_5, n2_1.symm, n3_1.symm, n3_2.symm, n4_1.symm, n4_2.symm, n4_3.symm, n5_1.symm, n5_2.symm, n5_3.symm, n5_4.symm, n6_1.symm, n6_2.symm, n6_3.symm, n6_4.symm, n6_5.symm] at f7
  have n7_1 : a7 ≠ a1 := fun e => by
    rw [e] at f7
    simp [xr_1, xi_1, xn_1, n2_1, n3_1, n3_2, n4_1, n4_2, n4_3, n5_1, n5_2, n5_3, n5_4, n6_1, n6_2, n6_3, n6_4, n6_5, n2_1.symm, n3_1.symm, n3_2.symm, n4_1.symm, n4_2.symm, n4_3.symm, n5_1.symm, n5_2.symm, n5_3.symm, n5_4.symm, n6_1.symm, n6_2.symm, n6_3.symm, n6_4.symm, n6_5.symm] at f7
  repeat' (first
    | ((with_reducible refine @And.intro (vp_in _ _) _ ?_ ?_); (· (first | with_reducible assumption | ((with_reducible refine t_vin ?_); decide) | ((with_reducible refine vp_in_nI ?_ ?_) <;> first | omega | decide) | (simp (disch := omega) only [xl_n, xl_m, nI_dec, nI_sb, nI_add, pk_mul]; (with_reducible refine vp_in_nI ?_ ?_) <;> first | omega | decide))); (conv => whnf))
    | (refine And.intro (by first | with_reducible assumption | exact (show cL _ _ = _ from rfl) | decide) ?_; (conv => whnf))
    | ((with_reducible refine @And.intro (_ = _) _ ?_ ?_); (· rfl); (conv => whnf))
    | ((with_reducible refine @And.intro (@LE.le Nat _ _ _) _ ?_ ?_); (· (first | exact Nat.zero_le _ | exact Nat.le_of_ble_eq_true rfl | omega)); (conv => whnf))
    | ((with_reducible refine @And.intro (@LT.lt Nat _ _ _) _ ?_ ?_); (· omega); (conv => whnf))
    | ((with_reducible refine @And.intro (∃ _, _ = _) _ ?_ ?_); (· exact ⟨_, rfl⟩); (conv => whnf))
    | ((with_reducible refine @And.intro (_ ∨ _) _ ?_ ?_); (· (first | exact Or.inl rfl | exact Or.inr rfl | exact t_b01 _ | assumption)); (conv => whnf))
    | ((with_reducible refine @And.intro (¬ (_ = _)) _ ?_ ?_); (· first | assumption | (with_reducible assumption)); (conv => whnf))
    | (refine hX _ _ _ _ _ _ ?_; (conv => whnf); fail_if_success show False)
    | (rw [c_si]; (conv => whnf))
    | (refine ⟨_, rfl, ?_⟩; (conv => whnf))
    | (refine ⟨_, _, rfl, ?_⟩; (conv => whnf))
    | (refine ⟨_, _, _, rfl, ?_⟩; (conv => whnf))
    | (refine ⟨_, _, _, _, rfl, ?_⟩; (conv => whnf))
    | (refine And.intro (by simp [xr_1,xi_1,xn_1,n2_1,n3_1,n3_2,n4_1,n4_2,n4_3,n5_1,n5_2,n5_3,n5_4,n6_1,n6_2,n6_3,n6_4,n6_5,n7_1,n7_2,n7_3,n7_4,n7_5,n7_6,n2_1.symm,n3_1.symm,n3_2.symm,n4_1.symm,n4_2.symm,n4_3.symm,n5_1.symm,n5_2.symm,n5_3.symm,n5_4.symm,n6_1.symm,n6_2.symm,n6_3.symm,n6_4.symm,n6_5.symm,n7_1.symm,n7_2.symm,n7_3.symm,n7_4.symm,n7_5.symm,n7_6.symm]) ?_; (conv => whnf))
    | fail)
  intro a8 f8 g8
  (conv => whnf)
  have n8_7 : a8 ≠ a7 := fun e => by
    rw [e] at f8
    simp [xr_1, xi_1, xn_1, n2_1, n3_1, n3_2, n4_1, n4_2, n4_3, n5_1, n5_2, n5_3, n5_4, n6_1, n6_2, n6_3, n6_4, n6_5, n7_1, n7_2, n7_3, n7_4, n7_5, n7_6, n2_1.symm, n3_1.symm, n3_2.symm, n4_1.symm, n4_2.symm, n4_3.symm, n5_1.symm, n5_2.symm, n5_3.symm, n5_4.symm, n6_1.symm, n6_2.symm, n6_3.symm, n6_4.symm, n6_5.symm, n7_1.symm, n7_2.symm, n7_3.symm, n7_4.symm, n7_5.symm, n7_6.symm] at f8
  have n8_6 : a8 ≠ a6 := fun e => by
    rw [e] at f8
    simp [xr_1, xi_1, xn_1, n2_1, n3_1, n3_2, n4_1, n4_2, n4_3, n5_1, n5_2, n5_3, n5_4, n6_1, n6_2, n6_3, n6_4, n6_5, n7_1, n7_2, n7_3, n7_4, n7_5, n7_6, n2_1.symm, n3_1.symm, n3_2.symm, n4_1.symm, n4_2.symm, n4_3.symm, n5_1.symm, n5_2.symm, n5_3.symm, n5_4.symm, n6_1.symm, n6_2.symm, n6_3.symm, n6_4.symm, n6_5.symm, n7_1.symm, n7_2.symm, n7_3.symm, n7_4.symm, n7_5.symm, n7_6.symm] at f8
  have n8_5 : a8 ≠ a5 := fun e => by
    rw [e] at f8
    simp [xr_1, xi_1, xn_1, n2_1, n3_1, n3_2, n4_1, n4_2, n4_3, n5_1, n5_2, n5_3, n5_4, n6_1, n6_2, n6_3, n6_4, n6_5, n7_1, n7_2, n7_3, n7_4, n7_5, n7_6, n2_1.symm, n3_1.symm, n3_2.symm, n4_1.symm, n4_2.symm, n4_3.symm, n5_1.symm, n5_2.symm, n5_3.symm, n5_4.symm, n6_1.symm, n6_2.symm, n6_3.symm, n6_4.symm, n6_5.symm, n7_1.symm, n7_2.symm, n7_3.symm, n7_4.symm, n7_5.symm, n7_6.symm] at f8
  have n8_4 : a8 ≠ a4 := fun e => by
    rw [e] at f8
    simp [xr_1, xi_1, xn_1, n2_1, n3_1, n3_2, n4_1, n4_2, n4_3, n5_1, n5_2, n5_3, n5_4, n6_1, n6_2, n6_3, n6_4, n6_5, n7_1, n7_2, n7_3, n7_4, n7_5, n7_6, n2_1.symm, n3_1.symm, n3_2.symm, n4_1.symm, n4_2.symm, n4_3.symm, n5_1.symm, n5_2.symm, n5_3.symm, n5_4.symm, n6_1.symm, n6_2.symm, n6_3.symm, n6_4.symm, n6_5.symm, n7_1.symm, n7_2.symm, n7_3.symm, n7_4.symm, n7_5.symm, n7_6.symm] at f8
  have n8_3 : a8 ≠ a3 := fun e => by
    rw [e] at f8
    simp [xr_1, xi_1, xn_1, n2_1, n3_1, n3_2, n4_1, n4_2, n4_3, n5_1, n5_2, n5_3, n5_4, n6_1, n6_2, n6_3, n6_4, n6_5, n7_1, n7_2, n7_3, n7_4, n7_5, n7_6, n2_1.symm, n3_1.symm, n3_2.symm, n4_1.symm, n4_2.symm, n4_3.symm, n5_1.symm, n5_2.symm, n5_3.symm, n5_4.symm, n6_1.symm, n6_2.symm, n6_3.symm, n6_4.symm, n6_5.symm, n7_1.symm, n7_2.symm, n7_3.symm, n7_4.symm, n7_5.symm, n7_6.symm] at f8
  have n8_2 : a8 ≠ a2 := fun e => by
    rw [e] at f8
    simp [xr_1, xi_1, xn_1, n2_1, n3_1, n3_2, n4_1, n4_2, n4_3, n5_1, n5_2, n5_3, n5_4, n6_1, n6_2, n6_3, n6_4, n6_5, n7_1, n7_2, n7_3, n7_4, n7_5, n7_6, n2_1.symm, n3_1.symm, n3_2.symm, n4_1.symm, n4_2.symm, n4_3.symm, n5_1.symm, n5_2.symm, n5_3.symm, n5_4.symm, n6_1.symm, n6_2.symm, n6_3.symm, n6_4.symm, n6_5.symm, n7_1.symm, n7_2.symm, n7_3.symm, n7_4.symm, n7_5.symm, n7_6.symm] at f8
  have n8_1 : a8 ≠ a1 := fun e => by
    rw [e] at f8
    simp [xr_1, xi_1, xn_1, n2_1, n3_1, n3_2, n4_1, n4_2, n4_3, n5_1, n5_2, n5_3, n5_4, n6_1, n6_2, n6_3, n6_4, n6_5, n7_1, n7_2, n7_3, n7_4, n7_5, n7_6, n2_1.symm, n3_1.symm, n3_2.symm, n4_1.symm, n4_2.symm, n4_3.symm, n5_1.symm, n5_2.symm, n5_3.symm, n5_4.symm, n6_1.symm, n6_2.symm, n6_3.symm, n6_4.symm, n6_5.symm, n7_1.symm, n7_2.symm, n7_3.symm, n7_4.symm, n7_5.symm, n7_6.symm] at f8
  repeat' (first
    | ((with_reducible refine @And.intro (vp_in _ _) _ ?_ ?_); (· (first | with_reducible assumption | ((with_reducible refine t_vin ?_); decide) | ((with_reducible refine vp_in_nI ?_ ?_) <;> first | omega | decide) | (simp (disch := omega) only [xl_n, xl_m, nI_dec, nI_sb, nI_add, pk_mul]; (with_reducible refine vp_in_nI ?_ ?_) <;> first | omega | decide))); (conv => whnf))
    | (refine And.intro (by first | with_reducible assumption | exact (show cL _ _ = _ from rfl) | decide) ?_; (conv => whnf))
    | ((with_reducible refine @And.intro (_ = _) _ ?_ ?_); (· rfl); (conv => whnf))
    | ((with_reducible refine @And.intro (@LE.le Nat _ _ _) _ ?_ ?_); (· (first | exact Nat.zero_le _ | exact Nat.le_of_ble_eq_true rfl | omega)); (conv => whnf))
    | ((with_reducible refine @And.intro (@LT.lt Nat _ _ _) _ ?_ ?_); (· omega); (conv => whnf))
    | ((with_reducible refine @And.intro (∃ _, _ = _) _ ?_ ?_); (· exact ⟨_, rfl⟩); (conv => whnf))
    | ((with_reducible refine @And.intro (_ ∨ _) _ ?_ ?_); (· (first | exact Or.inl rfl | exact Or.inr rfl | exact t_b01 _ | assumption)); (conv => whnf))
    | ((with_reducible refine @And.intro (¬ (_ = _)) _ ?_ ?_); (· first | assumption | (with_reducible assumption)); (conv => whnf))
    | (refine hX _ _ _ _ _ _ ?_; (conv => whnf); fail_if_success show False)
    | (rw [c_si]; (conv => whnf))
    | (refine ⟨_, rfl, ?_⟩; (conv => whnf))
    | (refine ⟨_, _, rfl, ?_⟩; (conv => whnf))
    | (refine ⟨_, _, _, rfl, ?_⟩; (conv => whnf))
    | (refine ⟨_, _, _, _, rfl, ?_⟩; (conv => whnf))
    | (refine And.intro (by simp [xr_1,xi_1,xn_1,n2_1,n3_1,n3_2,n4_1,n4_2,n4_3,n5_1,n5_2,n5_3,n5_4,n6_1,n6_2,n6_3,n6_4,n6_5,n7_1,n7_2,n7_3,n7_4,n7_5,n7_6,n8_1,n8_2,n8_3,n8_4,n8_5,n8_6,n8_7,n2_1.symm,n3_1.symm,n3_2.symm,n4_1.symm,n4_2.symm,n4_3.symm,n5_1.symm,n5_2.symm,n5_3.symm,n5_4.symm,n6_1.symm,n6_2.symm,n6_3.symm,n6_4.symm,n6_5.symm,n7_1.symm,n7_2.symm,n7_3.symm,n7_4.symm,n7_5.symm,n7_6.symm,n8_1.symm,n8_2.symm,n8_3.symm,n8_4.symm,n8_5.symm,n8_6.symm,n8_7.symm]) ?_; (conv => whnf))
    | fail)
  intro a9 f9 g9
  (conv => whnf)
  have n9_8 : a9 ≠ a8 := fun e => by
    rw [e] at f9
    simp [xr_1, xi_1, xn_1, n2_1, n3_1, n3_2, n4_1, n4_2, n4_3, n5_1, n5_2, n5_3, n5_4, n6_1, n6_2, n6_3, n6_4, n6_5, n7_1, n7_2, n7_3, n7_4, n7_5, n7_6, n8_1, n8_2, n8_3, n8_4, n8_5, n8_6, n8_7, n2_1.symm, n3_1.symm, n3_2.symm, n4_1.symm, n4_2.symm, n4_3.symm, n5_1.symm, n5_2.symm, n5_3.symm, n5_4.symm, n6_1.symm, n6_2.symm, n6_3.symm, n6_4.symm, n6_5.symm, n7_1.symm, n7_2.symm, n7_3.symm, n7_4.symm, n7_5.symm, n7_6.symm, n8_1.symm, n8_2.symm, n8_3.symm, n8_4.symm, n8_5.symm, n8_6.symm, n8_7.symm] at f9
  have n9_7 : a9 ≠ a7 := fun e => by
    rw [e] at f9
    simp [xr_1, xi_1, xn_1, n2_1, n3_1, n3_2, n4_1, n4_2, n4_3, n5_1, n5_2, n5_3, n5_4, n6_1, n6_2, n6_3, n6_4, n6_5, n7_1, n7_2, n7_3, n7_4, n7_5, n7_6, n8_1, n8_2, n8_3, n8_4, n8_5, n8_6, n8_7, n2_1.symm, n3_1.symm, n3_2.symm, n4_1.symm, n4_2.symm, n4_3.symm, n5_1.symm, n5_2.symm, n5_3.symm, n5_4.symm, n6_1.symm, n6_2.symm, n6_3.symm, n6_4.symm, n6_5.symm, n7_1.symm, n7_2.symm, n7_3.symm, n7_4.symm, n7_5.symm, n7_6.symm, n8_1.symm, n8_2.symm, n8_3.symm, n8_4.symm, n8_5.symm, n8_6.symm, n8_7.symm] at f9
  have n9_6 : a9 ≠ a6 := fun e => by
    rw [e] at f9
    simp [xr_1, xi_1, xn_1, n2_1, n3_1, n3_2, n4_1, n4_2, n4_3, n5_1, n5_2, n5_3, n5_4, n6_1, n6_2, n6_3, n6_4, n6_5, n7_1, n7_2, n7_3, n7_4, n7_5, n7_6, n8_1, n8_2, n8_3, n8_4, n8_5, n8_6, n8_7, n2_1.symm, n3_1.symm, n3_2.symm, n4_1.symm, n4_2.symm, n4_3.symm, n5_1.symm, n5_2.symm, n5_3.symm, n5_4.symm, n6_1.symm, n6_2.symm, n6_3.symm, n6_4.symm, n6_5.symm, n7_1.symm, n7_2.symm, n7_3.symm, n7_4.symm, n7_5.symm, n7_6.symm, n8_1.symm, n8_2.symm, n8_3.symm, n8_4.symm, n8_5.symm, n8_6.symm, n8_7.symm] at f9
  have n9_5 : a9 ≠ a5 := fun e => by
    rw [e] at f9
    simp [xr_1, xi_1, xn_1, n2_1, n3_1, n3_2, n4_1, n4_2, n4_3, n5_1, n5_2, n5_3, n5_4, n6_1, n6_2, n6_3, n6_4, n6_5, n7_1, n7_2, n7_3, n7_4, n7_5, n7_6, n8_1, n8_2, n8_3, n8_4, n8_5, n8_6, n8_7, n2_1.symm, n3_1.symm, n3_2.symm, n4_1.symm, n4_2.symm, n4_3.symm, n5_1.symm, n5_2.symm, n5_3.symm, n5_4.symm, n6_1.symm, n6_2.symm, n6_3.symm, n6_4.symm, n6_5.symm, n7_1.symm, n7_2.symm, n7_3.symm, n7_4.symm, n7_5.symm, n7_6.symm, n8_1.symm, n8_2.symm, n8_3.symm, n8_4.symm, n8_5.symm, n8_6.symm, n8_7.symm] at f9
  have n9_4 : a9 ≠ a4 := fun e => by
    rw [e] at f9
    simp [xr_1, xi_1, xn_1, n2_1, n3_1, n3_2, n4_1, n4_2, n4_3, n5_1, n5_2, n5_3, n5_4, n6_1, n6_2, n6_3, n6_4, n6_5, n7_1, n7_2, n7_3, n7_4, n7_5, n7_6, n8_1, n8_2, n8_3, n8_4, n8_5, n8_6, n8_7, n2_1.symm, n3_1.symm, n3_2.symm, n4_1.symm, n4_2.symm, n4_3.symm, n5_1.symm, n5_2.symm, n5_3.symm, n5_4.symm, n6_1.symm, n6_2.symm, n6_3.symm, n6_4.symm, n6_5.symm, n7_1.symm, n7_2.symm, n7_3.symm, n7_4.symm, n7_5.symm, n7_6.symm, n8_1.symm, n8_2.symm, n8_3.symm, n8_4.symm, n8_5.symm, n8_6.symm, n8_7.symm] at f9
  have n9_3 : a9 ≠ a3 := fun e => by
    rw [e] at f9
    simp [xr_1, xi_1, xn_1, n2_1, n3_1, n3_2, n4_1, n4_2, n4_3, n5_1, n5_2, n5_3, n5_4, n6_1, n6_2, n6_3, n6_4, n6_5, n7_1, n7_2, n7_3, n7_4, n7_5, n7_6, n8_1, n8_2, n8_3, n8_4, n8_5, n8_6, n8_7, n2_1.symm, n3_1.symm, n3_2.symm, n4_1.symm, n4_2.symm, n4_3.symm, n5_1.symm, n5_2.symm, n5_3.symm, n5_4.symm, n6_1.symm, n6_2.symm, n6_3.symm, n6_4.symm, n6_5.symm, n7_1.symm, n7_2.symm, n7_3.symm, n7_4.symm, n7_5.symm, n7_6.symm, n8_1.symm, n8_2.symm, n8_3.symm, n8_4.symm, n8_5.symm, n8_6.symm, n8_7.symm] at f9
  have n9_2 : a9 ≠ a2 := fun e => by
    rw [e] at f9
    simp [xr_1, xi_1, xn_1, n2_1, n3_1, n3_2, n4_1, n4_2, n4_3, n5_1, n5_2, n5_3, n5_4, n6_1, n6_2, n6_3, n6_4, n6_5, n7_1, n7_2, n7_3, n7_4, n7_5, n7_6, n8_1, n8_2, n8_3, n8_4, n8_5, n8_6, n8_7, n2_1.symm, n3_1.symm, n3_2.symm, n4_1.symm, n4_2.symm, n4_3.symm, n5_1.symm, n5_2.symm, n5_3.symm, n5_4.symm, n6_1.symm, n6_2.symm, n6_3.symm, n6_4.symm, n6_5.symm, n7_1.symm, n7_2.symm, n7_3.symm, n7_4.symm, n7_5.symm, n7_6.symm, n8_1.symm, n8_2.symm, n8_3.symm, n8_4.symm, n8_5.symm, n8_6.symm, n8_7.symm] at f9
  have n9_1 : a9 ≠ a1 := fun e => by
    rw [e] at f9
    simp [xr_1, xi_1, xn_1, n2_1, n3_1, n3_2, n4_1, n4_2, n4_3, n5_1, n5_2, n5_3, n5_4, n6_1, n6_2, n6_3, n6_4, n6_5, n7_1, n7_2, n7_3, n7_4, n7_5, n7_6, n8_1, n8_2, n8_3, n8_4, n8_5, n8_6, n8_7, n2_1.symm, n3_1.symm, n3_2.symm, n4_1.symm, n4_2.symm, n4_3.symm, n5_1.symm, n5_2.symm, n5_3.symm, n5_4.symm, n6_1.symm, n6_2.symm, n6_3.symm, n6_4.symm, n6_5.symm, n7_1.symm, n7_2.symm, n7_3.symm, n7_4.symm, n7_5.symm, n7_6.symm, n8_1.symm, n8_2.symm, n8_3.symm, n8_4.symm, n8_5.symm, n8_6.symm, n8_7.symm] at f9
  repeat' (first
    | ((with_reducible refine @And.intro (vp_in _ _) _ ?_ ?_); (· (first | with_reducible assumption | ((with_reducible refine t_vin ?_); decide) | ((with_reducible refine vp_in_nI ?_ ?_) <;> first | omega | decide) | (simp (disch := omega) only [xl_n, xl_m, nI_dec, nI_sb, nI_add, pk_mul]; (with_reducible refine vp_in_nI ?_ ?_) <;> first | omega | decide))); (conv => whnf))
    | (refine And.intro (by first | with_reducible assumption | exact (show cL _ _ = _ from rfl) | decide) ?_; (conv => whnf))
    | ((with_reducible refine @And.intro (_ = _) _ ?_ ?_); (· rfl); (conv => whnf))
    | ((with_reducible refine @And.intro (@LE.le Nat _ _ _) _ ?_ ?_); (· (first | exact Nat.zero_le _ | exact Nat.le_of_ble_eq_true rfl | omega)); (conv => whnf))
    | ((with_reducible refine @And.intro (@LT.lt Nat _ _ _) _ ?_ ?_); (· omega); (conv => whnf))
    | ((with_reducible refine @And.intro (∃ _, _ = _) _ ?_ ?_); (· exact ⟨_, rfl⟩); (conv => whnf))
    | ((with_reducible refine @And.intro (_ ∨ _) _ ?_ ?_); (· (first | exact Or.inl rfl | exact Or.inr rfl | exact t_b01 _ | assumption)); (conv => whnf))
    | ((with_reducible refine @And.intro (¬ (_ = _)) _ ?_ ?_); (· first | assumption | (with_reducible assumption)); (conv => whnf))
    | (refine hX _ _ _ _ _ _ ?_; (conv => whnf); fail_if_success show False)
    | (rw [c_si]; (conv => whnf))
    | (refine ⟨_, rfl, ?_⟩; (conv => whnf))
    | (refine ⟨_, _, rfl, ?_⟩; (conv => whnf))
    | (refine ⟨_, _, _, rfl, ?_⟩; (conv => whnf))
    | (refine ⟨_, _, _, _, rfl, ?_⟩; (conv => whnf))
    | (refine And.intro (by simp [xr_1,xi_1,xn_1,n2_1,n3_1,n3_2,n4_1,n4_2,n4_3,n5_1,n5_2,n5_3,n5_4,n6_1,n6_2,n6_3,n6_4,n6_5,n7_1,n7_2,n7_3,n7_4,n7_5,n7_6,n8_1,n8_2,n8_3,n8_4,n8_5,n8_6,n8_7,n9_1,n9_2,n9_3,n9_4,n9_5,n9_6,n9_7,n9_8,n2_1.symm,n3_1.symm,n3_2.symm,n4_1.symm,n4_2.symm,n4_3.symm,n5_1.symm,n5_2.symm,n5_3.symm,n5_4.symm,n6_1.symm,n6_2.symm,n6_3.symm,n6_4.symm,n6_5.symm,n7_1.symm,n7_2.symm,n7_3.symm,n7_4.symm,n7_5.symm,n7_6.symm,n8_1.symm,n8_2.symm,n8_3.symm,n8_4.symm,n8_5.symm,n8_6.symm,n8_7.symm,n9_1.symm,n9_2.symm,n9_3.symm,n9_4.symm,n9_5.symm,n9_6.symm,n9_7.symm,n9_8.symm]) ?_; (conv => whnf))
    | fail)
  have b1 := f1
  have b2 : w.1 a2 = none := by
    simpa [xr_1, xi_1, xn_1, n2_1, n3_1, n3_2, n4_1, n4_2, n4_3, n5_1, n5_2, n5_3, n5_4, n6_1, n6_2, n6_3, n6_4, n6_5, n7_1, n7_2, n7_3, n7_4, n7_5, n7_6, n8_1, n8_2, n8_3, n8_4, n8_5, n8_6, n8_7, n9_1, n9_2, n9_3, n9_4, n9_5, n9_6, n9_7, n9_8, n2_1.symm, n3_1.symm, n3_2.symm, n4_1.symm, n4_2.symm, n4_3.symm, n5_1.symm, n5_2.symm, n5_3.symm, n5_4.symm, n6_1.symm, n6_2.symm, n6_3.symm, n6_4.symm, n6_5.symm, n7_1.symm, n7_2.symm, n7_3.symm, n7_4.symm, n7_5.symm, n7_6.symm, n8_1.symm, n8_2.symm, n8_3.symm, n8_4.symm, n8_5.symm, n8_6.symm, n8_7.symm, n9_1.symm, n9_2.symm, n9_3.symm, n9_4.symm, n9_5.symm, n9_6.symm, n9_7.symm, n9_8.symm] using f2
  have b3 : w.1 a3 = none := by
    simpa [xr_1, xi_1, xn_1, n2_1, n3_1, n3_2, n4_1, n4_2, n4_3, n5_1, n5_2, n5_3, n5_4, n6_1, n6_2, n6_3, n6_4, n6_5, n7_1, n7_2, n7_3, n7_4, n7_5, n7_6, n8_1, n8_2, n8_3, n8_4, n8_5, n8_6, n8_7, n9_1, n9_2, n9_3, n9_4, n9_5, n9_6, n9_7, n9_8, n2_1.symm, n3_1.symm, n3_2.symm, n4_1.symm, n4_2.symm, n4_3.symm, n5_1.symm, n5_2.symm, n5_3.symm, n5_4.symm, n6_1.symm, n6_2.symm, n6_3.symm, n6_4.symm, n6_5.symm, n7_1.symm, n7_2.symm, n7_3.symm, n7_4.symm, n7_5.symm, n7_6.symm, n8_1.symm, n8_2.symm, n8_3.symm, n8_4.symm, n8_5.symm, n8_6.symm, n8_7.symm, n9_1.symm, n9_2.symm, n9_3.symm, n9_4.symm, n9_5.symm, n9_6.symm, n9_7.symm, n9_8.symm] using f3
  have b4 : w.1 a4 = none := by
    simpa [xr_1, xi_1, xn_1, n2_1, n3_1, n3_2, n4_1, n4_2, n4_3, n5_1, n5_2, n5_3, n5_4, n6_1, n6_2, n6_3, n6_4, n6_5, n7_1, n7_2, n7_3, n7_4, n7_5, n7_6, n8_1, n8_2, n8_3, n8_4, n8_5, n8_6, n8_7, n9_1, n9_2, n9_3, n9_4, n9_5, n9_6, n9_7, n9_8, n2_1.symm, n3_1.symm, n3_2.symm, n4_1.symm, n4_2.symm, n4_3.symm, n5_1.symm, n5_2.symm, n5_3.symm, n5_4.symm, n6_1.symm, n6_2.symm, n6_3.symm, n6_4.symm, n6_5.symm, n7_1.symm, n7_2.symm, n7_3.symm, n7_4.symm, n7_5.symm, n7_6.symm, n8_1.symm, n8_2.symm, n8_3.symm, n8_4.symm, n8_5.symm, n8_6.symm, n8_7.symm, n9_1.symm, n9_2.symm, n9_3.symm, n9_4.symm, n9_5.symm, n9_6.symm, n9_7.symm, n9_8.symm] using f4
  have b5 : w.1 a5 = none := by
    simpa [xr_1, xi_1, xn_1, n2_1, n3_1, n3_2, n4_1, n4_2, n4_3, n5_1, n5_2, n5_3, n5_4, n6_1, n6_2, n6_3, n6_4, n6_5, n7_1, n7_2, n7_3, n7_4, n7_5, n7_6, n8_1, n8_2, n8_3, n8_4, n8_5, n8_6, n8_7, n9_1, n9_2, n9_3, n9_4, n9_5, n9_6, n9_7, n9_8, n2_1.symm, n3_1.symm, n3_2.symm, n4_1.symm, n4_2.symm, n4_3.symm, n5_1.symm, n5_2.symm, n5_3.symm, n5_4.symm, n6_1.symm, n6_2.symm, n6_3.symm, n6_4.symm, n6_5.symm, n7_1.symm, n7_2.symm, n7_3.symm, n7_4.symm, n7_5.symm, n7_6.symm, n8_1.symm, n8_2.symm, n8_3.symm, n8_4.symm, n8_5.symm, n8_6.symm, n8_7.symm, n9_1.symm, n9_2.symm, n9_3.symm, n9_4.symm, n9_5.symm, n9_6.symm, n9_7.symm, n9_8.symm] using f5
  have b6 : w.1 a6 = none := by
    simpa [xr_1, xi_1, xn_1, n2_1, n3_1, n3_2, n4_1, n4_2, n4_3, n5_1, n5_2, n5_3, n5_4, n6_1, n6_2, n6_3, n6_4, n6_5, n7_1, n7_2, n7_3, n7_4, n7_5, n7_6, n8_1, n8_2, n8_3, n8_4, n8_5, n8_6, n8_7, n9_1, n9_2, n9_3, n9_4, n9_5, n9_6, n9_7, n9_8, n2_1.symm, n3_1.symm, n3_2.symm, n4_1.symm, n4_2.symm, n4_3.symm, n5_1.symm, n5_2.symm, n5_3.symm, n5_4.symm, n6_1.symm, n6_2.symm, n6_3.symm, n6_4.symm, n6_5.symm, n7_1.symm, n7_2.symm, n7_3.symm, n7_4.symm, n7_5.symm, n7_6.symm, n8_1.symm, n8_2.symm, n8_3.symm, n8_4.symm, n8_5.symm, n8_6.symm, n8_7.symm, n9_1.symm, n9_2.symm, n9_3.symm, n9_4.symm, n9_5.symm, n9_6.symm, n9_7.symm, n9_8.symm] using f6
  have b7 : w.1 a7 = none := by
    simpa [xr_1, xi_1, xn_1, n2_1, n3_1, n3_2, n4_1, n4_2, n4_3, n5_1, n5_2, n5_3, n5_4, n6_1, n6_2, n6_3, n6_4, n6_5, n7_1, n7_2, n7_3, n7_4, n7_5, n7_6, n8_1, n8_2, n8_3, n8_4, n8_5, n8_6, n8_7, n9_1, n9_2, n9_3, n9_4, n9_5, n9_6, n9_7, n9_8, n2_1.symm, n3_1.symm, n3_2.symm, n4_1.symm, n4_2.symm, n4_3.symm, n5_1.symm, n5_2.symm, n5_3.symm, n5_4.symm, n6_1.symm, n6_2.symm, n6_3.symm, n6_4.symm, n6_5.symm, n7_1.symm, n7_2.symm, n7_3.symm, n7_4.symm, n7_5.symm, n7_6.symm, n8_1.symm, n8_2.symm, n8_3.symm, n8_4.symm, n8_5.symm, n8_6.symm, n8_7.symm, n9_1.symm, n9_2.symm, n9_3.symm, n9_4.symm, n9_5.symm, n9_6.symm, n9_7.symm, n9_8.symm] using f7
  have b8 : w.1 a8 = none := by
    simpa [xr_1, xi_1, xn_1, n2_1, n3_1, n3_2, n4_1, n4_2, n4_3, n5_1, n5_2, n5_3, n5_4, n6_1, n6_2, n6_3, n6_4, n6_5, n7_1, n7_2, n7_3, n7_4, n7_5, n7_6, n8_1, n8_2, n8_3, n8_4, n8_5, n8_6, n8_7, n9_1, n9_2, n9_3, n9_4, n9_5, n9_6, n9_7, n9_8, n2_1.symm, n3_1.symm, n3_2.symm, n4_1.symm, n4_2.symm, n4_3.symm, n5_1.symm, n5_2.symm, n5_3.symm, n5_4.symm, n6_1.symm, n6_2.symm, n6_3.symm, n6_4.symm, n6_5.symm, n7_1.symm, n7_2.symm, n7_3.symm, n7_4.symm, n7_5.symm, n7_6.symm, n8_1.symm, n8_2.symm, n8_3.symm, n8_4.symm, n8_5.symm, n8_6.symm, n8_7.symm, n9_1.symm, n9_2.symm, n9_3.symm, n9_4.symm, n9_5.symm, n9_6.symm, n9_7.symm, n9_8.symm] using f8
  have b9 : w.1 a9 = none := by
    simpa [xr_1, xi_1, xn_1, n2_1, n3_1, n3_2, n4_1, n4_2, n4_3, n5_1, n5_2, n5_3, n5_4, n6_1, n6_2, n6_3, n6_4, n6_5, n7_1, n7_2, n7_3, n7_4, n7_5, n7_6, n8_1, n8_2, n8_3, n8_4, n8_5, n8_6, n8_7, n9_1, n9_2, n9_3, n9_4, n9_5, n9_6, n9_7, n9_8, n2_1.symm, n3_1.symm, n3_2.symm, n4_1.symm, n4_2.symm, n4_3.symm, n5_1.symm, n5_2.symm, n5_3.symm, n5_4.symm, n6_1.symm, n6_2.symm, n6_3.symm, n6_4.symm, n6_5.symm, n7_1.symm, n7_2.symm, n7_3.symm, n7_4.symm, n7_5.symm, n7_6.symm, n8_1.symm, n8_2.symm, n8_3.symm, n8_4.symm, n8_5.symm, n8_6.symm, n8_7.symm, n9_1.symm, n9_2.symm, n9_3.symm, n9_4.symm, n9_5.symm, n9_6.symm, n9_7.symm, n9_8.symm] using f9
  refine hQ _ _ ?_ ?_
  · exact ((((((((((((((((((((((x_ext.rf.tr (x_ext.nw f1 g1)).tr (x_ext.nw f2 g2)).tr (x_ext.nw f3 g3)).tr (x_ext.nw f4 g4)).si b4 g4).tr (x_ext.nw f5 g5)).si b5 g5).sr b3 g3).sr b3 g3).tr (x_ext.nw f6 g6)).tr (x_ext.nw f7 g7)).si b7 g7).tr (x_ext.nw f8 g8)).si b8 g8).sr b6 g6).sr b6 g6).sr b2 g2).sr b2 g2).tr (x_ext.nw f9 g9)).si b9 g9).sr b1 g1).sr b1 g1)
  · generalize hW : xm_sr _ a1 1 (some a9) = W
    have l1 : W.1 a1 = some (2, 2) := by
      rw [← hW]
      simp [xr_1, xr_2, xr_3, xi_1, xi_2, xi_3, xn_1, xn_2, xn_3, n2_1, n3_1, n3_2, n4_1, n4_2, n4_3, n5_1, n5_2, n5_3, n5_4, n6_1, n6_2, n6_3, n6_4, n6_5, n7_1, n7_2, n7_3, n7_4, n7_5, n7_6, n8_1, n8_2, n8_3, n8_4, n8_5, n8_6, n8_7, n9_1, n9_2, n9_3, n9_4, n9_5, n9_6, n9_7, n9_8, n2_1.symm, n3_1.symm, n3_2.symm, n4_1.symm, n4_2.symm, n4_3.symm, n5_1.symm, n5_2.symm, n5_3.symm, n5_4.symm, n6_1.symm, n6_2.symm, n6_3.symm, n6_4.symm, n6_5.symm, n7_1.symm, n7_2.symm, n7_3.symm, n7_4.symm, n7_5.symm, n7_6.symm, n8_1.symm, n8_2.symm, n8_3.symm, n8_4.symm, n8_5.symm, n8_6.symm, n8_7.symm, n9_1.symm, n9_2.symm, n9_3.symm, n9_4.symm, n9_5.symm, n9_6.symm, n9_7.symm, n9_8.symm]
    have l2 : W.1 a2 = some (3, 2) := by
      rw [← hW]
      simp [xr_1, xr_2, xr_3, xi_1, xi_2, xi_3, xn_1, xn_2, xn_3, n2_1, n3_1, n3_2, n4_1, n4_2, n4_3, n5_1, n5_2, n5_3, n5_4, n6_1, n6_2, n6_3, n6_4, n6_5, n7_1, n7_2, n7_3, n7_4, n7_5, n7_6, n8_1, n8_2, n8_3, n8_4, n8_5, n8_6, n8_7, n9_1, n9_2, n9_3, n9_4, n9_5, n9_6, n9_7, n9_8, n2_1.symm, n3_1.symm, n3_2.symm, n4_1.symm, n4_2.symm, n4_3.symm, n5_1.symm, n5_2.symm, n5_3.symm, n5_4.symm, n6_1.symm, n6_2.symm, n6_3.symm, n6_4.symm, n6_5.symm, n7_1.symm, n7_2.symm, n7_3.symm, n7_4.symm, n7_5.symm, n7_6.symm, n8_1.symm, n8_2.symm, n8_3.symm, n8_4.symm, n8_5.symm, n8_6.symm, n8_7.symm, n9_1.symm, n9_2.symm, n9_3.symm, n9_4.symm, n9_5.symm, n9_6.symm, n9_7.symm, n9_8.symm]
    have l3 : W.1 a3 = some (4, 2) := by
      rw [← hW]
      simp [xr_1, xr_2, xr_3, xi_1, xi_2, xi_3, xn_1, xn_2, xn_3, n2_1, n3_1, n3_2, n4_1, n4_2, n4_3, n5_1, n5_2, n5_3, n5_4, n6_1, n6_2, n6_3, n6_4, n6_5, n7_1, n7_2, n7_3, n7_4, n7_5, n7_6, n8_1, n8_2, n8_3, n8_4, n8_5, n8_6, n8_7, n9_1, n9_2, n9_3, n9_4, n9_5, n9_6, n9_7, n9_8, n2_1.symm, n3_1.symm, n3_2.symm, n4_1.symm, n4_2.symm, n4_3.symm, n5_1.symm, n5_2.symm, n5_3.symm, n5_4.symm, n6_1.symm, n6_2.symm, n6_3.symm, n6_4.symm, n6_5.symm, n7_1.symm, n7_2.symm, n7_3.symm, n7_4.symm, n7_5.symm, n7_6.symm, n8_1.symm, n8_2.symm, n8_3.symm, n8_4.symm, n8_5.symm, n8_6.symm, n8_7.symm, n9_1.symm, n9_2.symm, n9_3.symm, n9_4.symm, n9_5.symm, n9_6.symm, n9_7.symm, n9_8.symm]
    have l4 : W.1 a4 = some (5, 1) := by
      rw [← hW]
      simp [xr_1, xr_2, xr_3, xi_1, xi_2, xi_3, xn_1, xn_2, xn_3, n2_1, n3_1, n3_2, n4_1, n4_2, n4_3, n5_1, n5_2, n5_3, n5_4, n6_1, n6_2, n6_3, n6_4, n6_5, n7_1, n7_2, n7_3, n7_4, n7_5, n7_6, n8_1, n8_2, n8_3, n8_4, n8_5, n8_6, n8_7, n9_1, n9_2, n9_3, n9_4, n9_5, n9_6, n9_7, n9_8, n2_1.symm, n3_1.symm, n3_2.symm, n4_1.symm, n4_2.symm, n4_3.symm, n5_1.symm, n5_2.symm, n5_3.symm, n5_4.symm, n6_1.symm, n6_2.symm, n6_3.symm, n6_4.symm, n6_5.symm, n7_1.symm, n7_2.symm, n7_3.symm, n7_4.symm, n7_5.symm, n7_6.symm, n8_1.symm, n8_2.symm, n8_3.symm, n8_4.symm, n8_5.symm, n8_6.symm, n8_7.symm, n9_1.symm, n9_2.symm, n9_3.symm, n9_4.symm, n9_5.symm, n9_6.symm, n9_7.symm, n9_8.symm]
    have l5 : W.1 a5 = some (6, 1) := by
      rw [← hW]
      simp [xr_1, xr_2, xr_3, xi_1, xi_2, xi_3, xn_1, xn_2, xn_3, n2_1, n3_1, n3_2, n4_1, n4_2, n4_3, n5_1, n5_2, n5_3, n5_4, n6_1, n6_2, n6_3, n6_4, n6_5, n7_1, n7_2, n7_3, n7_4, n7_5, n7_6, n8_1, n8_2, n8_3, n8_4, n8_5, n8_6, n8_7, n9_1, n9_2, n9_3, n9_4, n9_5, n9_6, n9_7, n9_8, n2_1.symm, n3_1.symm, n3_2.symm, n4_1.symm, n4_2.symm, n4_3.symm, n5_1.symm, n5_2.symm, n5_3.symm, n5_4.symm, n6_1.symm, n6_2.symm, n6_3.symm, n6_4.symm, n6_5.symm, n7_1.symm, n7_2.symm, n7_3.symm, n7_4.symm, n7_5.symm, n7_6.symm, n8_1.symm, n8_2.symm, n8_3.symm, n8_4.symm, n8_5.symm, n8_6.symm, n8_7.symm, n9_1.symm, n9_2.symm, n9_3.symm, n9_4.symm, n9_5.symm, n9_6.symm, n9_7.symm, n9_8.symm]
    have l6 : W.1 a6 = some (4, 2) := by
      rw [← hW]
      simp [xr_1, xr_2, xr_3, xi_1, xi_2, xi_3, xn_1, xn_2, xn_3, n2_1, n3_1, n3_2, n4_1, n4_2, n4_3, n5_1, n5_2, n5_3, n5_4, n6_1, n6_2, n6_3, n6_4, n6_5, n7_1, n7_2, n7_3, n7_4, n7_5, n7_6, n8_1, n8_2, n8_3, n8_4, n8_5, n8_6, n8_7, n9_1, n9_2, n9_3, n9_4, n9_5, n9_6, n9_7, n9_8, n2_1.symm, n3_1.symm, n3_2.symm, n4_1.symm, n4_2.symm, n4_3.symm, n5_1.symm, n5_2.symm, n5_3.symm, n5_4.symm, n6_1.symm, n6_2.symm, n6_3.symm, n6_4.symm, n6_5.symm, n7_1.symm, n7_2.symm, n7_3.symm, n7_4.symm, n7_5.symm, n7_6.symm, n8_1.symm, n8_2.symm, n8_3.symm, n8_4.symm, n8_5.symm, n8_6.symm, n8_7.symm, n9_1.symm, n9_2.symm, n9_3.symm, n9_4.symm, n9_5.symm, n9_6.symm, n9_7.symm, n9_8.symm]
    have l7 : W.1 a7 = some (5, 1) := by
      rw [← hW]
      simp [xr_1, xr_2, xr_3, xi_1, xi_2, xi_3, xn_1, xn_2, xn_3, n2_1, n3_1, n3_2, n4_1, n4_2, n4_3, n5_1, n5_2, n5_3, n5_4, n6_1, n6_2, n6_3, n6_4, n6_5, n7_1, n7_2, n7_3, n7_4, n7_5, n7_6, n8_1, n8_2, n8_3, n8_4, n8_5, n8_6, n8_7, n9_1, n9_2, n9_3, n9_4, n9_5, n9_6, n9_7, n9_8, n2_1.symm, n3_1.symm, n3_2.symm, n4_1.symm, n4_2.symm, n4_3.symm, n5_1.symm, n5_2.symm, n5_3.symm, n5_4.symm, n6_1.symm, n6_2.symm, n6_3.symm, n6_4.symm, n6_5.symm, n7_1.symm, n7_2.symm, n7_3.symm, n7_4.symm, n7_5.symm, n7_6.symm, n8_1.symm, n8_2.symm, n8_3.symm, n8_4.symm, n8_5.symm, n8_6.symm, n8_7.symm, n9_1.symm, n9_2.symm, n9_3.symm, n9_4.symm, n9_5.symm, n9_6.symm, n9_7.symm, n9_8.symm]
    have l8 : W.1 a8 = some (6, 1) := by
      rw [← hW]
      simp [xr_1, xr_2, xr_3, xi_1, xi_2, xi_3, xn_1, xn_2, xn_3, n2_1, n3_1, n3_2, n4_1, n4_2, n4_3, n5_1, n5_2, n5_3, n5_4, n6_1, n6_2, n6_3, n6_4, n6_5, n7_1, n7_2, n7_3, n7_4, n7_5, n7_6, n8_1, n8_2, n8_3, n8_4, n8_5, n8_6, n8_7, n9_1, n9_2, n9_3, n9_4, n9_5, n9_6, n9_7, n9_8, n2_1.symm, n3_1.symm, n3_2.symm, n4_1.symm, n4_2.symm, n4_3.symm, n5_1.symm, n5_2.symm, n5_3.symm, n5_4.symm, n6_1.symm, n6_2.symm, n6_3.symm, n6_4.symm, n6_5.symm, n7_1.symm, n7_2.symm, n7_3.symm, n7_4.symm, n7_5.symm, n7_6.symm, n8_1.symm, n8_2.symm, n8_3.symm, n8_4.symm, n8_5.symm, n8_6.symm, n8_7.symm, n9_1.symm, n9_2.symm, n9_3.symm, n9_4.symm, n9_5.symm, n9_6.symm, n9_7.symm, n9_8.symm]
    have l9 : W.1 a9 = some (5, 1) := by
      rw [← hW]
      simp [xr_1, xr_2, xr_3, xi_1, xi_2, xi_3, xn_1, xn_2, xn_3, n2_1, n3_1, n3_2, n4_1, n4_2, n4_3, n5_1, n5_2, n5_3, n5_4, n6_1, n6_2, n6_3, n6_4, n6_5, n7_1, n7_2, n7_3, n7_4, n7_5, n7_6, n8_1, n8_2, n8_3, n8_4, n8_5, n8_6, n8_7, n9_1, n9_2, n9_3, n9_4, n9_5, n9_6, n9_7, n9_8, n2_1.symm, n3_1.symm, n3_2.symm, n4_1.symm, n4_2.symm, n4_3.symm, n5_1.symm, n5_2.symm, n5_3.symm, n5_4.symm, n6_1.symm, n6_2.symm, n6_3.symm, n6_4.symm, n6_5.symm, n7_1.symm, n7_2.symm, n7_3.symm, n7_4.symm, n7_5.symm, n7_6.symm, n8_1.symm, n8_2.symm, n8_3.symm, n8_4.symm, n8_5.symm, n8_6.symm, n8_7.symm, n9_1.symm, n9_2.symm, n9_3.symm, n9_4.symm, n9_5.symm, n9_6.symm, n9_7.symm, n9_8.symm]
    have v4 : W.2.1 a4 0 = Int32.ofInt 0 := by
      rw [← hW]
      simp [xr_1, xr_2, xr_3, xi_1, xi_2, xi_3, xn_1, xn_2, xn_3, n2_1, n3_1, n3_2, n4_1, n4_2, n4_3, n5_1, n5_2, n5_3, n5_4, n6_1, n6_2, n6_3, n6_4, n6_5, n7_1, n7_2, n7_3, n7_4, n7_5, n7_6, n8_1, n8_2, n8_3, n8_4, n8_5, n8_6, n8_7, n9_1, n9_2, n9_3, n9_4, n9_5, n9_6, n9_7, n9_8, n2_1.symm, n3_1.symm, n3_2.symm, n4_1.symm, n4_2.symm, n4_3.symm, n5_1.symm, n5_2.symm, n5_3.symm, n5_4.symm, n6_1.symm, n6_2.symm, n6_3.symm, n6_4.symm, n6_5.symm, n7_1.symm, n7_2.symm, n7_3.symm, n7_4.symm, n7_5.symm, n7_6.symm, n8_1.symm, n8_2.symm, n8_3.symm, n8_4.symm, n8_5.symm, n8_6.symm, n8_7.symm, n9_1.symm, n9_2.symm, n9_3.symm, n9_4.symm, n9_5.symm, n9_6.symm, n9_7.symm, n9_8.symm]
    have v5 : W.2.1 a5 0 = Int32.ofInt 2 := by
      rw [← hW]
      simp [xr_1, xr_2, xr_3, xi_1, xi_2, xi_3, xn_1, xn_2, xn_3, n2_1, n3_1, n3_2, n4_1, n4_2, n4_3, n5_1, n5_2, n5_3, n5_4, n6_1, n6_2, n6_3, n6_4, n6_5, n7_1, n7_2, n7_3, n7_4, n7_5, n7_6, n8_1, n8_2, n8_3, n8_4, n8_5, n8_6, n8_7, n9_1, n9_2, n9_3, n9_4, n9_5, n9_6, n9_7, n9_8, n2_1.symm, n3_1.symm, n3_2.symm, n4_1.symm, n4_2.symm, n4_3.symm, n5_1.symm, n5_2.symm, n5_3.symm, n5_4.symm, n6_1.symm, n6_2.symm, n6_3.symm, n6_4.symm, n6_5.symm, n7_1.symm, n7_2.symm, n7_3.symm, n7_4.symm, n7_5.symm, n7_6.symm, n8_1.symm, n8_2.symm, n8_3.symm, n8_4.symm, n8_5.symm, n8_6.symm, n8_7.symm, n9_1.symm, n9_2.symm, n9_3.symm, n9_4.symm, n9_5.symm, n9_6.symm, n9_7.symm, n9_8.symm]
    have v7 : W.2.1 a7 0 = Int32.ofInt 3 := by
      rw [← hW]
      simp [xr_1, xr_2, xr_3, xi_1, xi_2, xi_3, xn_1, xn_2, xn_3, n2_1, n3_1, n3_2, n4_1, n4_2, n4_3, n5_1, n5_2, n5_3, n5_4, n6_1, n6_2, n6_3, n6_4, n6_5, n7_1, n7_2, n7_3, n7_4, n7_5, n7_6, n8_1, n8_2, n8_3, n8_4, n8_5, n8_6, n8_7, n9_1, n9_2, n9_3, n9_4, n9_5, n9_6, n9_7, n9_8, n2_1.symm, n3_1.symm, n3_2.symm, n4_1.symm, n4_2.symm, n4_3.symm, n5_1.symm, n5_2.symm, n5_3.symm, n5_4.symm, n6_1.symm, n6_2.symm, n6_3.symm, n6_4.symm, n6_5.symm, n7_1.symm, n7_2.symm, n7_3.symm, n7_4.symm, n7_5.symm, n7_6.symm, n8_1.symm, n8_2.symm, n8_3.symm, n8_4.symm, n8_5.symm, n8_6.symm, n8_7.symm, n9_1.symm, n9_2.symm, n9_3.symm, n9_4.symm, n9_5.symm, n9_6.symm, n9_7.symm, n9_8.symm]
    have v8 : W.2.1 a8 0 = Int32.ofInt 3 := by
      rw [← hW]
      simp [xr_1, xr_2, xr_3, xi_1, xi_2, xi_3, xn_1, xn_2, xn_3, n2_1, n3_1, n3_2, n4_1, n4_2, n4_3, n5_1, n5_2, n5_3, n5_4, n6_1, n6_2, n6_3, n6_4, n6_5, n7_1, n7_2, n7_3, n7_4, n7_5, n7_6, n8_1, n8_2, n8_3, n8_4, n8_5, n8_6, n8_7, n9_1, n9_2, n9_3, n9_4, n9_5, n9_6, n9_7, n9_8, n2_1.symm, n3_1.symm, n3_2.symm, n4_1.symm, n4_2.symm, n4_3.symm, n5_1.symm, n5_2.symm, n5_3.symm, n5_4.symm, n6_1.symm, n6_2.symm, n6_3.symm, n6_4.symm, n6_5.symm, n7_1.symm, n7_2.symm, n7_3.symm, n7_4.symm, n7_5.symm, n7_6.symm, n8_1.symm, n8_2.symm, n8_3.symm, n8_4.symm, n8_5.symm, n8_6.symm, n8_7.symm, n9_1.symm, n9_2.symm, n9_3.symm, n9_4.symm, n9_5.symm, n9_6.symm, n9_7.symm, n9_8.symm]
    have v9 : W.2.1 a9 0 = Int32.ofInt 8 := by
      rw [← hW]
      simp [xr_1, xr_2, xr_3, xi_1, xi_2, xi_3, xn_1, xn_2, xn_3, n2_1, n3_1, n3_2, n4_1, n4_2, n4_3, n5_1, n5_2, n5_3, n5_4, n6_1, n6_2, n6_3, n6_4, n6_5, n7_1, n7_2, n7_3, n7_4, n7_5, n7_6, n8_1, n8_2, n8_3, n8_4, n8_5, n8_6, n8_7, n9_1, n9_2, n9_3, n9_4, n9_5, n9_6, n9_7, n9_8, n2_1.symm, n3_1.symm, n3_2.symm, n4_1.symm, n4_2.symm, n4_3.symm, n5_1.symm, n5_2.symm, n5_3.symm, n5_4.symm, n6_1.symm, n6_2.symm, n6_3.symm, n6_4.symm, n6_5.symm, n7_1.symm, n7_2.symm, n7_3.symm, n7_4.symm, n7_5.symm, n7_6.symm, n8_1.symm, n8_2.symm, n8_3.symm, n8_4.symm, n8_5.symm, n8_6.symm, n8_7.symm, n9_1.symm, n9_2.symm, n9_3.symm, n9_4.symm, n9_5.symm, n9_6.symm, n9_7.symm, n9_8.symm]
    have x1 : W.2.2.1 a1 0 = some a2 := by
      rw [← hW]
      simp [xr_1, xr_2, xr_3, xi_1, xi_2, xi_3, xn_1, xn_2, xn_3, n2_1, n3_1, n3_2, n4_1, n4_2, n4_3, n5_1, n5_2, n5_3, n5_4, n6_1, n6_2, n6_3, n6_4, n6_5, n7_1, n7_2, n7_3, n7_4, n7_5, n7_6, n8_1, n8_2, n8_3, n8_4, n8_5, n8_6, n8_7, n9_1, n9_2, n9_3, n9_4, n9_5, n9_6, n9_7, n9_8, n2_1.symm, n3_1.symm, n3_2.symm, n4_1.symm, n4_2.symm, n4_3.symm, n5_1.symm, n5_2.symm, n5_3.symm, n5_4.symm, n6_1.symm, n6_2.symm, n6_3.symm, n6_4.symm, n6_5.symm, n7_1.symm, n7_2.symm, n7_3.symm, n7_4.symm, n7_5.symm, n7_6.symm, n8_1.symm, n8_2.symm, n8_3.symm, n8_4.symm, n8_5.symm, n8_6.symm, n8_7.symm, n9_1.symm, n9_2.symm, n9_3.symm, n9_4.symm, n9_5.symm, n9_6.symm, n9_7.symm, n9_8.symm]
    have y1 : W.2.2.1 a1 1 = some a9 := by
      rw [← hW]
      simp [xr_1, xr_2, xr_3, xi_1, xi_2, xi_3, xn_1, xn_2, xn_3, n2_1, n3_1, n3_2, n4_1, n4_2, n4_3, n5_1, n5_2, n5_3, n5_4, n6_1, n6_2, n6_3, n6_4, n6_5, n7_1, n7_2, n7_3, n7_4, n7_5, n7_6, n8_1, n8_2, n8_3, n8_4, n8_5, n8_6, n8_7, n9_1, n9_2, n9_3, n9_4, n9_5, n9_6, n9_7, n9_8, n2_1.symm, n3_1.symm, n3_2.symm, n4_1.symm, n4_2.symm, n4_3.symm, n5_1.symm, n5_2.symm, n5_3.symm, n5_4.symm, n6_1.symm, n6_2.symm, n6_3.symm, n6_4.symm, n6_5.symm, n7_1.symm, n7_2.symm, n7_3.symm, n7_4.symm, n7_5.symm, n7_6.symm, n8_1.symm, n8_2.symm, n8_3.symm, n8_4.symm, n8_5.symm, n8_6.symm, n8_7.symm, n9_1.symm, n9_2.symm, n9_3.symm, n9_4.symm, n9_5.symm, n9_6.symm, n9_7.symm, n9_8.symm]
    have x2 : W.2.2.1 a2 0 = some a3 := by
      rw [← hW]
      simp [xr_1, xr_2, xr_3, xi_1, xi_2, xi_3, xn_1, xn_2, xn_3, n2_1, n3_1, n3_2, n4_1, n4_2, n4_3, n5_1, n5_2, n5_3, n5_4, n6_1, n6_2, n6_3, n6_4, n6_5, n7_1, n7_2, n7_3, n7_4, n7_5, n7_6, n8_1, n8_2, n8_3, n8_4, n8_5, n8_6, n8_7, n9_1, n9_2, n9_3, n9_4, n9_5, n9_6, n9_7, n9_8, n2_1.symm, n3_1.symm, n3_2.symm, n4_1.symm, n4_2.symm, n4_3.symm, n5_1.symm, n5_2.symm, n5_3.symm, n5_4.symm, n6_1.symm, n6_2.symm, n6_3.symm, n6_4.symm, n6_5.symm, n7_1.symm, n7_2.symm, n7_3.symm, n7_4.symm, n7_5.symm, n7_6.symm, n8_1.symm, n8_2.symm, n8_3.symm, n8_4.symm, n8_5.symm, n8_6.symm, n8_7.symm, n9_1.symm, n9_2.symm, n9_3.symm, n9_4.symm, n9_5.symm, n9_6.symm, n9_7.symm, n9_8.symm]
    have y2 : W.2.2.1 a2 1 = some a6 := by
      rw [← hW]
      simp [xr_1, xr_2, xr_3, xi_1, xi_2, xi_3, xn_1, xn_2, xn_3, n2_1, n3_1, n3_2, n4_1, n4_2, n4_3, n5_1, n5_2, n5_3, n5_4, n6_1, n6_2, n6_3, n6_4, n6_5, n7_1, n7_2, n7_3, n7_4, n7_5, n7_6, n8_1, n8_2, n8_3, n8_4, n8_5, n8_6, n8_7, n9_1, n9_2, n9_3, n9_4, n9_5, n9_6, n9_7, n9_8, n2_1.symm, n3_1.symm, n3_2.symm, n4_1.symm, n4_2.symm, n4_3.symm, n5_1.symm, n5_2.symm, n5_3.symm, n5_4.symm, n6_1.symm, n6_2.symm, n6_3.symm, n6_4.symm, n6_5.symm, n7_1.symm, n7_2.symm, n7_3.symm, n7_4.symm, n7_5.symm, n7_6.symm, n8_1.symm, n8_2.symm, n8_3.symm, n8_4.symm, n8_5.symm, n8_6.symm, n8_7.symm, n9_1.symm, n9_2.symm, n9_3.symm, n9_4.symm, n9_5.symm, n9_6.symm, n9_7.symm, n9_8.symm]
    have x3 : W.2.2.1 a3 0 = some a4 := by
      rw [← hW]
      simp [xr_1, xr_2, xr_3, xi_1, xi_2, xi_3, xn_1, xn_2, xn_3, n2_1, n3_1, n3_2, n4_1, n4_2, n4_3, n5_1, n5_2, n5_3, n5_4, n6_1, n6_2, n6_3, n6_4, n6_5, n7_1, n7_2, n7_3, n7_4, n7_5, n7_6, n8_1, n8_2, n8_3, n8_4, n8_5, n8_6, n8_7, n9_1, n9_2, n9_3, n9_4, n9_5, n9_6, n9_7, n9_8, n2_1.symm, n3_1.symm, n3_2.symm, n4_1.symm, n4_2.symm, n4_3.symm, n5_1.symm, n5_2.symm, n5_3.symm, n5_4.symm, n6_1.symm, n6_2.symm, n6_3.symm, n6_4.symm, n6_5.symm, n7_1.symm, n7_2.symm, n7_3.symm, n7_4.symm, n7_5.symm, n7_6.symm, n8_1.symm, n8_2.symm, n8_3.symm, n8_4.symm, n8_5.symm, n8_6.symm, n8_7.symm, n9_1.symm, n9_2.symm, n9_3.symm, n9_4.symm, n9_5.symm, n9_6.symm, n9_7.symm, n9_8.symm]
    have y3 : W.2.2.1 a3 1 = some a5 := by
      rw [← hW]
      simp [xr_1, xr_2, xr_3, xi_1, xi_2, xi_3, xn_1, xn_2, xn_3, n2_1, n3_1, n3_2, n4_1, n4_2, n4_3, n5_1, n5_2, n5_3, n5_4, n6_1, n6_2, n6_3, n6_4, n6_5, n7_1, n7_2, n7_3, n7_4, n7_5, n7_6, n8_1, n8_2, n8_3, n8_4, n8_5, n8_6, n8_7, n9_1, n9_2, n9_3, n9_4, n9_5, n9_6, n9_7, n9_8, n2_1.symm, n3_1.symm, n3_2.symm, n4_1.symm, n4_2.symm, n4_3.symm, n5_1.symm, n5_2.symm, n5_3.symm, n5_4.symm, n6_1.symm, n6_2.symm, n6_3.symm, n6_4.symm, n6_5.symm, n7_1.symm, n7_2.symm, n7_3.symm, n7_4.symm, n7_5.symm, n7_6.symm, n8_1.symm, n8_2.symm, n8_3.symm, n8_4.symm, n8_5.symm, n8_6.symm, n8_7.symm, n9_1.symm, n9_2.symm, n9_3.symm, n9_4.symm, n9_5.symm, n9_6.symm, n9_7.symm, n9_8.symm]
    have x6 : W.2.2.1 a6 0 = some a7 := by
      rw [← hW]
      simp [xr_1, xr_2, xr_3, xi_1, xi_2, xi_3, xn_1, xn_2, xn_3, n2_1, n3_1, n3_2, n4_1, n4_2, n4_3, n5_1, n5_2, n5_3, n5_4, n6_1, n6_2, n6_3, n6_4, n6_5, n7_1, n7_2, n7_3, n7_4, n7_5, n7_6, n8_1, n8_2, n8_3, n8_4, n8_5, n8_6, n8_7, n9_1, n9_2, n9_3, n9_4, n9_5, n9_6, n9_7, n9_8, n2_1.symm, n3_1.symm, n3_2.symm, n4_1.symm, n4_2.symm, n4_3.symm, n5_1.symm, n5_2.symm, n5_3.symm, n5_4.symm, n6_1.symm, n6_2.symm, n6_3.symm, n6_4.symm, n6_5.symm, n7_1.symm, n7_2.symm, n7_3.symm, n7_4.symm, n7_5.symm, n7_6.symm, n8_1.symm, n8_2.symm, n8_3.symm, n8_4.symm, n8_5.symm, n8_6.symm, n8_7.symm, n9_1.symm, n9_2.symm, n9_3.symm, n9_4.symm, n9_5.symm, n9_6.symm, n9_7.symm, n9_8.symm]
    have y6 : W.2.2.1 a6 1 = some a8 := by
      rw [← hW]
      simp [xr_1, xr_2, xr_3, xi_1, xi_2, xi_3, xn_1, xn_2, xn_3, n2_1, n3_1, n3_2, n4_1, n4_2, n4_3, n5_1, n5_2, n5_3, n5_4, n6_1, n6_2, n6_3, n6_4, n6_5, n7_1, n7_2, n7_3, n7_4, n7_5, n7_6, n8_1, n8_2, n8_3, n8_4, n8_5, n8_6, n8_7, n9_1, n9_2, n9_3, n9_4, n9_5, n9_6, n9_7, n9_8, n2_1.symm, n3_1.symm, n3_2.symm, n4_1.symm, n4_2.symm, n4_3.symm, n5_1.symm, n5_2.symm, n5_3.symm, n5_4.symm, n6_1.symm, n6_2.symm, n6_3.symm, n6_4.symm, n6_5.symm, n7_1.symm, n7_2.symm, n7_3.symm, n7_4.symm, n7_5.symm, n7_6.symm, n8_1.symm, n8_2.symm, n8_3.symm, n8_4.symm, n8_5.symm, n8_6.symm, n8_7.symm, n9_1.symm, n9_2.symm, n9_3.symm, n9_4.symm, n9_5.symm, n9_6.symm, n9_7.symm, n9_8.symm]
    have t4 : ∀ d, c_rep (d + 1) W a4 [(nI 1, nI 0)] := fun d => ⟨g4, Or.inr (Or.inl ⟨0, by decide, l4, v4, rfl⟩)⟩
    have t5 : ∀ d, c_rep (d + 1) W a5 [(nI 0, nI 2)] := fun d => ⟨g5, Or.inl ⟨_, l5, v5, rfl⟩⟩
    have t7 : ∀ d, c_rep (d + 1) W a7 [(nI 1, nI 3)] := fun d => ⟨g7, Or.inr (Or.inl ⟨3, by decide, l7, v7, rfl⟩)⟩
    have t8 : ∀ d, c_rep (d + 1) W a8 [(nI 0, nI 3)] := fun d => ⟨g8, Or.inl ⟨_, l8, v8, rfl⟩⟩
    have t9 : ∀ d, c_rep (d + 1) W a9 [(nI 1, nI 8)] := fun d => ⟨g9, Or.inr (Or.inl ⟨8, by decide, l9, v9, rfl⟩)⟩
    have t3 : ∀ d, c_rep (d + 2) W a3 ([(nI 1, nI 0)] ++ [(nI 0, nI 2)] ++ [(nI 4, nI 0)]) := fun d => ⟨g3, Or.inr (Or.inr ⟨4, _, _, _, _, by decide, by decide, l3, x3, y3, t4 d, t5 d, rfl⟩)⟩
    have t6 : ∀ d, c_rep (d + 2) W a6 ([(nI 1, nI 3)] ++ [(nI 0, nI 3)] ++ [(nI 4, nI 0)]) := fun d => ⟨g6, Or.inr (Or.inr ⟨4, _, _, _, _, by decide, by decide, l6, x6, y6, t7 d, t8 d, rfl⟩)⟩
    have t2 : ∀ d, c_rep (d + 3) W a2 ([(nI 1, nI 0)] ++ [(nI 0, nI 2)] ++ [(nI 4, nI 0)] ++ ([(nI 1, nI 3)] ++ [(nI 0, nI 3)] ++ [(nI 4, nI 0)]) ++ [(nI 3, nI 0)]) := fun d => ⟨g2, Or.inr (Or.inr ⟨3, _, _, _, _, by decide, by decide, l2, x2, y2, t3 d, t6 d, rfl⟩)⟩
    exact ⟨g1, Or.inr (Or.inr ⟨2, _, _, _, _, by decide, by decide, l1, x1, y1, t2 5, t9 7, rfl⟩)⟩
theorem ct_X1_custom : xm_Ct cI yX1_custom (ws_ yX1_custom cX1_custom 0 (some (.object "PuppetHeirs$Term"))) 4 9 13 S_X1_custom := xm_enter (rt := 3) (init := false) (by decide +kernel) rfl (fun h => by cases h) (Or.inr (Or.inr (Or.inr (Or.inl ⟨rfl, Or.inl ⟨_, rfl⟩⟩)))) (oX1_custom) body_X1_custom
theorem cv_X1_custom {own : String} {cc : ByteArray} {fr pc idx : Nat} (hdg : decode cc pc = .ok (.invokestatic idx, 3)) (hl : xm_ml own idx yX1_custom) (hfr : 4 < fr) : xm_CallOK cI own cc fr pc (pc + 3) 0 9 13 S_X1_custom := xm_callS cI_good (ct_X1_custom) hdg hl q597 q116 q598 (by decide +kernel) hfr (by decide)
