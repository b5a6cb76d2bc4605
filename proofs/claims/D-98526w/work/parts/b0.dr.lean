/-! ===== terms made, the custom ===== -/
set_option maxRecDepth 100000
set_option maxHeartbeats 1000000
section
variable {w : xW} {a b t n k j : Nat}
theorem xn_1 : (xm_nw w a t n).1 b = if b = a then some (t, n) else w.1 b := rfl
theorem xn_2 : (xm_nw w a t n).2.1 b k = if b = a then 0 else w.2.1 b k := rfl
theorem xn_3 : (xm_nw w a t n).2.2.1 b k = if b = a then none else w.2.2.1 b k := rfl
theorem xi_1 {v : Int32} : (xm_si w a k v).1 = w.1 := rfl
theorem xi_2 {v : Int32} : (xm_si w a k v).2.1 b j = if b = a ∧ j = k then v else w.2.1 b j := rfl
theorem xi_3 {v : Int32} : (xm_si w a k v).2.2.1 = w.2.2.1 := rfl
theorem xr_1 {v : Option Nat} : (xm_sr w a k v).1 = w.1 := rfl
theorem xr_2 {v : Option Nat} : (xm_sr w a k v).2.1 = w.2.1 := rfl
theorem xr_3 {v : Option Nat} : (xm_sr w a k v).2.2.1 b j = if b = a ∧ j = k then v else w.2.2.1 b j := rfl
end
def S_J19_init : xS := fun as w Q _ => ∃ a, as = [.ref a] ∧ Q none w
theorem xc_obj {Iv : xI} {own : String} {cc : ByteArray} {fr pc idx : Nat} (hdg : decode cc pc = .ok (.invokespecial idx, 3)) (hl : Cond.methodLink own idx { cls := "java/lang/Object", name := "<init>", desc := "()V" } ∈ lw_all) (hfr : 1 ≤ fr) : xm_CallOK Iv own cc fr pc (pc + 3) 1 0 0 S_J19_init := by
  intro p l e R s m args below meth c Qf D dA b A nL C0 hR1 hR2 as rest w K KX H locs cells slots ls hn h8 hS hJ hsz hc hs kk kx
  obtain ⟨hx, hb, hml, hown, hts, hK, hN, hIv, hA, hst, hlk⟩ := id C0
  obtain ⟨a, rfl, hk⟩ := hS
  have hcat : ((xm_cs b rest).map fun v => v.category).sum ≤ 10 := by
    rw [xm_cs_cat, ← xm_ct_eq]
    exact h8
  exact W.objInit (g := F0 m pc ls (xm_cs b ([Value.ref a].reverse ++ rest))) hx hb hown (hts _ hl) (hts _ q164) (hts _ q165) rfl (hsz.trans hml.symm) (a := xm_phi b a) (rest := xm_cs b rest) rfl hdg (by omega) (by
    show 2 * 0 + _ + 12 ≤ _
    omega) (kk none w H locs hk hJ)
abbrev bX3_init_0 : List xE := [(.aload_n 0, 1, 0, 0, 0), (.invokespecial 1, 4, 0, 0, 9), (.return_, 5, 0, 0, 0)]
abbrev kX3_init : List (Nat × List xE) := [(0, bX3_init_0)]
abbrev lX3_init : List (Nat × Nat × Nat × xS) := [(1, 0, 0, S_J19_init)]
theorem oX3_init_0  : xm_okb cI RX3 cX3_init true 1 lX3_init bX3_init_0 0 := xo_0 dX3_init_0 rfl trivial (xo_c rfl (xc_obj dX3_init_1 q613 (by decide)) (xo_0 dX3_init_4 rfl trivial (xo_n)))
theorem oX3_init  : ∀ q ∈ kX3_init, xm_okb cI RX3 cX3_init true 1 lX3_init q.2 q.1 := by
  intro q hq
  simp only [List.mem_cons, List.not_mem_nil, or_false] at hq
  subst hq
  exact oX3_init_0  
def S_X3_init : xS := fun as w Q _ => ∃ a, as = [.ref a] ∧ Q none w
theorem rec_X3_init : ∀ as w K KX, S_X3_init as w K KX → ∃ a as', as = .ref a :: as' := fun as w K KX h => by
  obtain ⟨a, rfl, -⟩ := h
  exact ⟨a, _, rfl⟩
theorem body_X3_init : xm_Body 1 2 0 0 [] lX3_init kX3_init S_X3_init := by
  intro X avs w Q QX hX0 hS
  have hG := xm_go [] hX0
  have hX := xm_go [] hX0
  clear hX0
  obtain ⟨a, rfl, hQ⟩ := hS
  refine ⟨rfl, ?_⟩
  repeat' (first
    | ((with_reducible refine @And.intro (vp_in _ _) _ ?_ ?_); (· (first | with_reducible assumption | ((with_reducible refine t_vin ?_); decide) | ((with_reducible refine vp_in_nI ?_ ?_) <;> first | omega | decide) | (simp (disch := omega) only [xl_n, xl_m, nI_dec, nI_sb, nI_add, pk_mul]; (with_reducible refine vp_in_nI ?_ ?_) <;> first | omega | decide))); (conv => whnf))
    | (refine And.intro (by first | with_reducible assumption | exact (show cL _ _ = _ from rfl) | decide) ?_; (conv => whnf))
    | ((with_reducible refine @And.intro (_ = _) _ ?_ ?_); (· rfl); (conv => whnf))
    | ((with_reducible refine @And.intro (@LE.le Nat _ _ _) _ ?_ ?_); (· (first | exact Nat.zero_le _ | exact Nat.le_of_ble_eq_true rfl | omega)); (conv => whnf))
    | ((with_reducible refine @And.intro (@LT.lt Nat _ _ _) _ ?_ ?_); (· omega); (conv => whnf))
    | ((with_reducible refine @And.intro (∃ _, _ = _) _ ?_ ?_); (· exact ⟨_, rfl⟩); (conv => whnf))
    | ((with_reducible refine @And.intro (_ ∨ _) _ ?_ ?_); (· (first | exact Or.inl rfl | exact Or.inr rfl | exact t_b01 _ | assumption)); (conv => whnf))
    | ((with_reducible refine @And.intro (¬ (_ = _)) _ ?_ ?_); (· first | assumption | (with_reducible assumption)); (conv => whnf))
    | (refine hX _ _ _ _ _ _ ?_; (conv => whnf); fail_if_success show False)
    | (rw [c_si]; (conv => whnf))
    | (refine ⟨_, rfl, ?_⟩; (conv => whnf))
    | (refine ⟨_, _, rfl, ?_⟩; (conv => whnf))
    | (refine ⟨_, _, _, rfl, ?_⟩; (conv => whnf))
    | (refine ⟨_, _, _, _, rfl, ?_⟩; (conv => whnf))
    | (refine And.intro (fun c => ?_) (fun c => ?_) <;> (first | (exact absurd c (by decide +kernel)) | (conv => whnf)))
    | fail)
  exact hQ
theorem ct_X3_init : xm_Ct cI yX3_init (ws_ yX3_init cX3_init 1 none) 1 0 0 S_X3_init := xm_enter (rt := 2) (init := true) (by decide +kernel) rfl (fun h => by rfl) (Or.inr (Or.inr (Or.inl ⟨rfl, rfl⟩))) (oX3_init) body_X3_init
theorem cv_X3_init {own : String} {cc : ByteArray} {fr pc idx : Nat} (hdg : decode cc pc = .ok (.invokespecial idx, 3)) (hl : xm_ml own idx yX3_init) (hfr : 1 < fr) : xm_CallOK cI own cc fr pc (pc + 3) 1 0 0 S_X3_init := xm_callI cI_good (ct_X3_init) hdg hl q611 q137 q612 rfl rec_X3_init (by decide +kernel) hfr (by decide)
abbrev bX8_init_0 : List xE := [(.aload_n 0, 1, 0, 0, 0), (.invokespecial 1, 4, 0, 0, 9), (.aload_n 0, 5, 0, 0, 0), (.iload_n 1, 6, 0, 0, 0), (.putfield 7, 9, 5, 0, 0), (.return_, 10, 0, 0, 0)]
abbrev kX8_init : List (Nat × List xE) := [(0, bX8_init_0)]
abbrev lX8_init : List (Nat × Nat × Nat × xS) := [(1, 0, 0, S_X3_init)]
theorem oX8_init_0  : xm_okb cI RX8 cX8_init true 2 lX8_init bX8_init_0 0 := xo_0 dX8_init_0 rfl trivial (xo_c rfl (cv_X3_init dX8_init_1 (Or.inr ⟨_, q610⟩) (by decide)) (xo_0 dX8_init_4 rfl trivial (xo_0 dX8_init_5 rfl trivial (xo_0 dX8_init_6 rfl (xm_fp_ofF (xm_fg_of (Or.inl q614) (by decide) rfl (by decide) rfl rfl (Or.inl rfl) rfl) (by decide) rfl (Or.inl ⟨rfl, rfl⟩) rfl rfl q614) (xo_0 dX8_init_9 rfl trivial (xo_n))))))
theorem oX8_init  : ∀ q ∈ kX8_init, xm_okb cI RX8 cX8_init true 2 lX8_init q.2 q.1 := by
  intro q hq
  simp only [List.mem_cons, List.not_mem_nil, or_false] at hq
  subst hq
  exact oX8_init_0  
def S_X8_init : xS := fun as w Q _ => ∃ a v, as = [.ref a, .int v] ∧ w.1 a = some (5, 1) ∧ Q none (xm_si w a 0 v)
theorem rec_X8_init : ∀ as w K KX, S_X8_init as w K KX → ∃ a as', as = .ref a :: as' := fun as w K KX h => by
  obtain ⟨a, v, rfl, -⟩ := h
  exact ⟨a, _, rfl⟩
theorem body_X8_init : xm_Body 2 2 0 0 [] lX8_init kX8_init S_X8_init := by
  intro X avs w Q QX hX0 hS
  have hG := xm_go [] hX0
  have hX := xm_go [] hX0
  clear hX0
  obtain ⟨a, v, rfl, ha, hQ⟩ := hS
  refine ⟨rfl, ?_⟩
  repeat' (first
    | ((with_reducible refine @And.intro (vp_in _ _) _ ?_ ?_); (· (first | with_reducible assumption | ((with_reducible refine t_vin ?_); decide) | ((with_reducible refine vp_in_nI ?_ ?_) <;> first | omega | decide) | (simp (disch := omega) only [xl_n, xl_m, nI_dec, nI_sb, nI_add, pk_mul]; (with_reducible refine vp_in_nI ?_ ?_) <;> first | omega | decide))); (conv => whnf))
    | (refine And.intro (by first | with_reducible assumption | exact (show cL _ _ = _ from rfl) | decide) ?_; (conv => whnf))
    | ((with_reducible refine @And.intro (_ = _) _ ?_ ?_); (· rfl); (conv => whnf))
    | ((with_reducible refine @And.intro (@LE.le Nat _ _ _) _ ?_ ?_); (· (first | exact Nat.zero_le _ | exact Nat.le_of_ble_eq_true rfl | omega)); (conv => whnf))
    | ((with_reducible refine @And.intro (@LT.lt Nat _ _ _) _ ?_ ?_); (· omega); (conv => whnf))
    | ((with_reducible refine @And.intro (∃ _, _ = _) _ ?_ ?_); (· exact ⟨_, rfl⟩); (conv => whnf))
    | ((with_reducible refine @And.intro (_ ∨ _) _ ?_ ?_); (· (first | exact Or.inl rfl | exact Or.inr rfl | exact t_b01 _ | assumption)); (conv => whnf))
    | ((with_reducible refine @And.intro (¬ (_ = _)) _ ?_ ?_); (· first | assumption | (with_reducible assumption)); (conv => whnf))
    | (refine hX _ _ _ _ _ _ ?_; (conv => whnf); fail_if_success show False)
    | (rw [c_si]; (conv => whnf))
    | (refine ⟨_, rfl, ?_⟩; (conv => whnf))
    | (refine ⟨_, _, rfl, ?_⟩; (conv => whnf))
    | (refine ⟨_, _, _, rfl, ?_⟩; (conv => whnf))
    | (refine ⟨_, _, _, _, rfl, ?_⟩; (conv => whnf))
    | (rw [ha]; (conv => whnf))
    | (refine And.intro (fun c => ?_) (fun c => ?_) <;> (first | (exact absurd c (by decide +kernel)) | (conv => whnf)))
    | fail)
  exact hQ
theorem ct_X8_init : xm_Ct cI yX8_init (ws_ yX8_init cX8_init 2 none) 2 0 0 S_X8_init := xm_enter (rt := 2) (init := true) (by decide +kernel) rfl (fun h => by rfl) (Or.inr (Or.inr (Or.inl ⟨rfl, rfl⟩))) (oX8_init) body_X8_init
theorem cv_X8_init {own : String} {cc : ByteArray} {fr pc idx : Nat} (hdg : decode cc pc = .ok (.invokespecial idx, 3)) (hl : xm_ml own idx yX8_init) (hfr : 2 < fr) : xm_CallOK cI own cc fr pc (pc + 3) 2 0 0 S_X8_init := xm_callI cI_good (ct_X8_init) hdg hl q608 q142 q609 rfl rec_X8_init (by decide +kernel) hfr (by decide)
abbrev bX9_init_0 : List xE := [(.aload_n 0, 1, 0, 0, 0), (.invokespecial 1, 4, 0, 0, 9), (.aload_n 0, 5, 0, 0, 0), (.iload_n 1, 6, 0, 0, 0), (.putfield 7, 9, 6, 0, 0), (.return_, 10, 0, 0, 0)]
abbrev kX9_init : List (Nat × List xE) := [(0, bX9_init_0)]
abbrev lX9_init : List (Nat × Nat × Nat × xS) := [(1, 0, 0, S_X3_init)]
theorem oX9_init_0  : xm_okb cI RX9 cX9_init true 2 lX9_init bX9_init_0 0 := xo_0 dX9_init_0 rfl trivial (xo_c rfl (cv_X3_init dX9_init_1 (Or.inr ⟨_, q623⟩) (by decide)) (xo_0 dX9_init_4 rfl trivial (xo_0 dX9_init_5 rfl trivial (xo_0 dX9_init_6 rfl (xm_fp_ofF (xm_fg_of (Or.inl q624) (by decide) rfl (by decide) rfl rfl (Or.inl rfl) rfl) (by decide) rfl (Or.inl ⟨rfl, rfl⟩) rfl rfl q624) (xo_0 dX9_init_9 rfl trivial (xo_n))))))
theorem oX9_init  : ∀ q ∈ kX9_init, xm_okb cI RX9 cX9_init true 2 lX9_init q.2 q.1 := by
  intro q hq
  simp only [List.mem_cons, List.not_mem_nil, or_false] at hq
  subst hq
  exact oX9_init_0  
def S_X9_init : xS := fun as w Q _ => ∃ a v, as = [.ref a, .int v] ∧ w.1 a = some (6, 1) ∧ Q none (xm_si w a 0 v)
theorem rec_X9_init : ∀ as w K KX, S_X9_init as w K KX → ∃ a as', as = .ref a :: as' := fun as w K KX h => by
  obtain ⟨a, v, rfl, -⟩ := h
  exact ⟨a, _, rfl⟩
theorem body_X9_init : xm_Body 2 2 0 0 [] lX9_init kX9_init S_X9_init := by
  intro X avs w Q QX hX0 hS
  have hG := xm_go [] hX0
  have hX := xm_go [] hX0
  clear hX0
  obtain ⟨a, v, rfl, ha, hQ⟩ := hS
  refine ⟨rfl, ?_⟩
  repeat' (first
    | ((with_reducible refine @And.intro (vp_in _ _) _ ?_ ?_); (· (first | with_reducible assumption | ((with_reducible refine t_vin ?_); decide) | ((with_reducible refine vp_in_nI ?_ ?_) <;> first | omega | decide) | (simp (disch := omega) only [xl_n, xl_m, nI_dec, nI_sb, nI_add, pk_mul]; (with_reducible refine vp_in_nI ?_ ?_) <;> first | omega | decide))); (conv => whnf))
    | (refine And.intro (by first | with_reducible assumption | exact (show cL _ _ = _ from rfl) | decide) ?_; (conv => whnf))
    | ((with_reducible refine @And.intro (_ = _) _ ?_ ?_); (· rfl); (conv => whnf))
    | ((with_reducible refine @And.intro (@LE.le Nat _ _ _) _ ?_ ?_); (· (first | exact Nat.zero_le _ | exact Nat.le_of_ble_eq_true rfl | omega)); (conv => whnf))
    | ((with_reducible refine @And.intro (@LT.lt Nat _ _ _) _ ?_ ?_); (· omega); (conv => whnf))
    | ((with_reducible refine @And.intro (∃ _, _ = _) _ ?_ ?_); (· exact ⟨_, rfl⟩); (conv => whnf))
    | ((with_reducible refine @And.intro (_ ∨ _) _ ?_ ?_); (· (first | exact Or.inl rfl | exact Or.inr rfl | exact t_b01 _ | assumption)); (conv => whnf))
    | ((with_reducible refine @And.intro (¬ (_ = _)) _ ?_ ?_); (· first | assumption | (with_reducible assumption)); (conv => whnf))
    | (refine hX _ _ _ _ _ _ ?_; (conv => whnf); fail_if_success show False)
    | (rw [c_si]; (conv => whnf))
    | (refine ⟨_, rfl, ?_⟩; (conv => whnf))
    | (refine ⟨_, _, rfl, ?_⟩; (conv => whnf))
    | (refine ⟨_, _, _, rfl, ?_⟩; (conv => whnf))
    | (refine ⟨_, _, _, _, rfl, ?_⟩; (conv => whnf))
    | (rw [ha]; (conv => whnf))
    | (refine And.intro (fun c => ?_) (fun c => ?_) <;> (first | (exact absurd c (by decide +kernel)) | (conv => whnf)))
    | fail)
  exact hQ
theorem ct_X9_init : xm_Ct cI yX9_init (ws_ yX9_init cX9_init 2 none) 2 0 0 S_X9_init := xm_enter (rt := 2) (init := true) (by decide +kernel) rfl (fun h => by rfl) (Or.inr (Or.inr (Or.inl ⟨rfl, rfl⟩))) (oX9_init) body_X9_init
theorem cv_X9_init {own : String} {cc : ByteArray} {fr pc idx : Nat} (hdg : decode cc pc = .ok (.invokespecial idx, 3)) (hl : xm_ml own idx yX9_init) (hfr : 2 < fr) : xm_CallOK cI own cc fr pc (pc + 3) 2 0 0 S_X9_init := xm_callI cI_good (ct_X9_init) hdg hl q621 q143 q622 rfl rec_X9_init (by decide +kernel) hfr (by decide)
def c_two2 (t : Nat) : Prop := t = 2 ∨ t = 3 ∨ t = 4 ∨ t = 13 ∨ t = 14 ∨ t = 15 ∨ t = 16
def S_two (t : Nat) : xS := fun as w Q _ => ∃ a x y, as = [.ref a, .ref x, .ref y] ∧ w.1 a = some (t, 2) ∧ Q none (xm_sr (xm_sr w a 0 (some x)) a 1 (some y))
theorem rec_two {t : Nat} : ∀ as w K KX, S_two t as w K KX → ∃ a as', as = .ref a :: as' := fun as w K KX h => by
  obtain ⟨a, x, y, rfl, -⟩ := h
  exact ⟨a, _, rfl⟩
abbrev bX4_init_0 : List xE := [(.aload_n 0, 1, 0, 0, 0), (.invokespecial 1, 4, 0, 0, 9), (.aload_n 0, 5, 0, 0, 0), (.aload_n 1, 6, 0, 0, 0), (.putfield 7, 9, 31, 0, 1), (.aload_n 0, 10, 0, 0, 0), (.aload_n 2, 11, 0, 0, 0), (.putfield 13, 14, 31, 1, 1), (.return_, 15, 0, 0, 0)]
abbrev kX4_init : List (Nat × List xE) := [(0, bX4_init_0)]
abbrev lX4_init : List (Nat × Nat × Nat × xS) := [(1, 0, 0, S_X3_init)]
theorem oX4_init_0  : xm_okb cI RX4 cX4_init true 2 lX4_init bX4_init_0 0 := xo_0 dX4_init_0 rfl trivial (xo_c rfl (cv_X3_init dX4_init_1 (Or.inr ⟨_, q634⟩) (by decide)) (xo_0 dX4_init_4 rfl trivial (xo_0 dX4_init_5 rfl trivial (xo_1 dX4_init_6 rfl fp_X4_7 (xo_0 dX4_init_9 rfl trivial (xo_0 dX4_init_10 rfl trivial (xo_1 dX4_init_11 rfl fp_X4_13 (xo_0 dX4_init_14 rfl trivial (xo_n)))))))))
theorem oX4_init  : ∀ q ∈ kX4_init, xm_okb cI RX4 cX4_init true 2 lX4_init q.2 q.1 := by
  intro q hq
  simp only [List.mem_cons, List.not_mem_nil, or_false] at hq
  subst hq
  exact oX4_init_0  
def S_X4_init : xS := fun as w Q _ => ∃ t, c_two2 t ∧ S_two t as w Q (fun _ _ _ => True)
theorem rec_X4_init : ∀ as w K KX, S_X4_init as w K KX → ∃ a as', as = .ref a :: as' := fun as w K KX h => by
  obtain ⟨t, -, h⟩ := h
  exact rec_two _ _ _ _ h
theorem body_X4_init : xm_Body 3 2 0 0 [] lX4_init kX4_init S_X4_init := by
  intro X avs w Q QX hX0 hS
  have hG := xm_go [] hX0
  have hX := xm_go [] hX0
  clear hX0
  obtain ⟨t, ht, a, x, y, rfl, ha, hQ⟩ := hS
  refine ⟨rfl, ?_⟩
  rcases ht with rfl | rfl | rfl | rfl | rfl | rfl | rfl
  all_goals
    repeat' (first
      | ((with_reducible refine @And.intro (vp_in _ _) _ ?_ ?_); (· (first | with_reducible assumption | ((with_reducible refine t_vin ?_); decide) | ((with_reducible refine vp_in_nI ?_ ?_) <;> first | omega | decide) | (simp (disch := omega) only [xl_n, xl_m, nI_dec, nI_sb, nI_add, pk_mul]; (with_reducible refine vp_in_nI ?_ ?_) <;> first | omega | decide))); (conv => whnf))
      | (refine And.intro (by first | with_reducible assumption | exact (show cL _ _ = _ from rfl) | decide) ?_; (conv => whnf))
      | ((with_reducible refine @And.intro (_ = _) _ ?_ ?_); (· rfl); (conv => whnf))
      | ((with_reducible refine @And.intro (@LE.le Nat _ _ _) _ ?_ ?_); (· (first | exact Nat.zero_le _ | exact Nat.le_of_ble_eq_true rfl | omega)); (conv => whnf))
      | ((with_reducible refine @And.intro (@LT.lt Nat _ _ _) _ ?_ ?_); (· omega); (conv => whnf))
      | ((with_reducible refine @And.intro (∃ _, _ = _) _ ?_ ?_); (· exact ⟨_, rfl⟩); (conv => whnf))
      | ((with_reducible refine @And.intro (_ ∨ _) _ ?_ ?_); (· (first | exact Or.inl rfl | exact Or.inr rfl | exact t_b01 _ | assumption)); (conv => whnf))
      | ((with_reducible refine @And.intro (¬ (_ = _)) _ ?_ ?_); (· first | assumption | (with_reducible assumption)); (conv => whnf))
      | (refine hX _ _ _ _ _ _ ?_; (conv => whnf); fail_if_success show False)
      | (rw [c_si]; (conv => whnf))
      | (refine ⟨_, rfl, ?_⟩; (conv => whnf))
      | (refine ⟨_, _, rfl, ?_⟩; (conv => whnf))
      | (refine ⟨_, _, _, rfl, ?_⟩; (conv => whnf))
      | (refine ⟨_, _, _, _, rfl, ?_⟩; (conv => whnf))
      | (rw [ha]; (conv => whnf))
      | (rw [xr_1,ha]; (conv => whnf))
      | (refine And.intro (fun c => ?_) (fun c => ?_) <;> (first | (exact absurd c (by decide +kernel)) | (conv => whnf)))
      | fail)
    exact hQ
theorem ct_X4_init : xm_Ct cI yX4_init (ws_ yX4_init cX4_init 3 none) 2 0 0 S_X4_init := xm_enter (rt := 2) (init := true) (by decide +kernel) rfl (fun h => by rfl) (Or.inr (Or.inr (Or.inl ⟨rfl, rfl⟩))) (oX4_init) body_X4_init
theorem cv_X4_init {own : String} {cc : ByteArray} {fr pc idx : Nat} (hdg : decode cc pc = .ok (.invokespecial idx, 3)) (hl : xm_ml own idx yX4_init) (hfr : 2 < fr) : xm_CallOK cI own cc fr pc (pc + 3) 3 0 0 S_X4_init := xm_callI cI_good (ct_X4_init) hdg hl q632 q138 q633 rfl rec_X4_init (by decide +kernel) hfr (by decide)
abbrev bX5_init_0 : List xE := [(.aload_n 0, 1, 0, 0, 0), (.aload_n 1, 2, 0, 0, 0), (.aload_n 2, 3, 0, 0, 0), (.invokespecial 1, 6, 0, 0, 9), (.return_, 7, 0, 0, 0)]
abbrev kX5_init : List (Nat × List xE) := [(0, bX5_init_0)]
abbrev lX5_init : List (Nat × Nat × Nat × xS) := [(3, 0, 0, S_X4_init)]
theorem oX5_init_0  : xm_okb cI RX5 cX5_init true 3 lX5_init bX5_init_0 0 := xo_0 dX5_init_0 rfl trivial (xo_0 dX5_init_1 rfl trivial (xo_0 dX5_init_2 rfl trivial (xo_c rfl (cv_X4_init dX5_init_3 (Or.inl q652) (by decide)) (xo_0 dX5_init_6 rfl trivial (xo_n)))))
theorem oX5_init  : ∀ q ∈ kX5_init, xm_okb cI RX5 cX5_init true 3 lX5_init q.2 q.1 := by
  intro q hq
  simp only [List.mem_cons, List.not_mem_nil, or_false] at hq
  subst hq
  exact oX5_init_0  
def S_X5_init : xS := S_two 2
theorem rec_X5_init : ∀ as w K KX, S_X5_init as w K KX → ∃ a as', as = .ref a :: as' := rec_two
theorem body_X5_init : xm_Body 3 2 0 0 [] lX5_init kX5_init S_X5_init := by
  intro X avs w Q QX hX0 hS
  have hG := xm_go [] hX0
  have hX := xm_go [] hX0
  clear hX0
  obtain ⟨a, x, y, rfl, ha, hQ⟩ := hS
  refine ⟨rfl, ?_⟩
  repeat' (first
    | ((with_reducible refine @And.intro (vp_in _ _) _ ?_ ?_); (· (first | with_reducible assumption | ((with_reducible refine t_vin ?_); decide) | ((with_reducible refine vp_in_nI ?_ ?_) <;> first | omega | decide) | (simp (disch := omega) only [xl_n, xl_m, nI_dec, nI_sb, nI_add, pk_mul]; (with_reducible refine vp_in_nI ?_ ?_) <;> first | omega | decide))); (conv => whnf))
    | (refine And.intro (by first | with_reducible assumption | exact (show cL _ _ = _ from rfl) | decide) ?_; (conv => whnf))
    | ((with_reducible refine @And.intro (_ = _) _ ?_ ?_); (· rfl); (conv => whnf))
    | ((with_reducible refine @And.intro (@LE.le Nat _ _ _) _ ?_ ?_); (· (first | exact Nat.zero_le _ | exact Nat.le_of_ble_eq_true rfl | omega)); (conv => whnf))
    | ((with_reducible refine @And.intro (@LT.lt Nat _ _ _) _ ?_ ?_); (· omega); (conv => whnf))
    | ((with_reducible refine @And.intro (∃ _, _ = _) _ ?_ ?_); (· exact ⟨_, rfl⟩); (conv => whnf))
    | ((with_reducible refine @And.intro (_ ∨ _) _ ?_ ?_); (· (first | exact Or.inl rfl | exact Or.inr rfl | exact t_b01 _ | assumption)); (conv => whnf))
    | ((with_reducible refine @And.intro (¬ (_ = _)) _ ?_ ?_); (· first | assumption | (with_reducible assumption)); (conv => whnf))
    | (refine hX _ _ _ _ _ _ ?_; (conv => whnf); fail_if_success show False)
    | (rw [c_si]; (conv => whnf))
    | (refine ⟨_, rfl, ?_⟩; (conv => whnf))
    | (refine ⟨_, _, rfl, ?_⟩; (conv => whnf))
    | (refine ⟨_, _, _, rfl, ?_⟩; (conv => whnf))
    | (refine ⟨_, _, _, _, rfl, ?_⟩; (conv => whnf))
    | (refine ⟨2,Or.inl rfl,a,x,y,rfl,ha,?_⟩; (conv => whnf))
    | (refine And.intro (fun c => ?_) (fun c => ?_) <;> (first | (exact absurd c (by decide +kernel)) | (conv => whnf)))
    | fail)
  exact hQ
theorem ct_X5_init : xm_Ct cI yX5_init (ws_ yX5_init cX5_init 3 none) 3 0 0 S_X5_init := xm_enter (rt := 2) (init := true) (by decide +kernel) rfl (fun h => by rfl) (Or.inr (Or.inr (Or.inl ⟨rfl, rfl⟩))) (oX5_init) body_X5_init
theorem cv_X5_init {own : String} {cc : ByteArray} {fr pc idx : Nat} (hdg : decode cc pc = .ok (.invokespecial idx, 3)) (hl : xm_ml own idx yX5_init) (hfr : 3 < fr) : xm_CallOK cI own cc fr pc (pc + 3) 3 0 0 S_X5_init := xm_callI cI_good (ct_X5_init) hdg hl q650 q139 q651 rfl rec_X5_init (by decide +kernel) hfr (by decide)
abbrev bX6_init_0 : List xE := [(.aload_n 0, 1, 0, 0, 0), (.aload_n 1, 2, 0, 0, 0), (.aload_n 2, 3, 0, 0, 0), (.invokespecial 1, 6, 0, 0, 9), (.return_, 7, 0, 0, 0)]
abbrev kX6_init : List (Nat × List xE) := [(0, bX6_init_0)]
abbrev lX6_init : List (Nat × Nat × Nat × xS) := [(3, 0, 0, S_X4_init)]
theorem oX6_init_0  : xm_okb cI RX6 cX6_init true 3 lX6_init bX6_init_0 0 := xo_0 dX6_init_0 rfl trivial (xo_0 dX6_init_1 rfl trivial (xo_0 dX6_init_2 rfl trivial (xo_c rfl (cv_X4_init dX6_init_3 (Or.inl q645) (by decide)) (xo_0 dX6_init_6 rfl trivial (xo_n)))))
theorem oX6_init  : ∀ q ∈ kX6_init, xm_okb cI RX6 cX6_init true 3 lX6_init q.2 q.1 := by
  intro q hq
  simp only [List.mem_cons, List.not_mem_nil, or_false] at hq
  subst hq
  exact oX6_init_0  
def S_X6_init : xS := S_two 3
theorem rec_X6_init : ∀ as w K KX, S_X6_init as w K KX → ∃ a as', as = .ref a :: as' := rec_two
theorem body_X6_init : xm_Body 3 2 0 0 [] lX6_init kX6_init S_X6_init := by
  intro X avs w Q QX hX0 hS
  have hG := xm_go [] hX0
  have hX := xm_go [] hX0
  clear hX0
  obtain ⟨a, x, y, rfl, ha, hQ⟩ := hS
  refine ⟨rfl, ?_⟩
  repeat' (first
    | ((with_reducible refine @And.intro (vp_in _ _) _ ?_ ?_); (· (first | with_reducible assumption | ((with_reducible refine t_vin ?_); decide) | ((with_reducible refine vp_in_nI ?_ ?_) <;> first | omega | decide) | (simp (disch := omega) only [xl_n, xl_m, nI_dec, nI_sb, nI_add, pk_mul]; (with_reducible refine vp_in_nI ?_ ?_) <;> first | omega | decide))); (conv => whnf))
    | (refine And.intro (by first | with_reducible assumption | exact (show cL _ _ = _ from rfl) | decide) ?_; (conv => whnf))
    | ((with_reducible refine @And.intro (_ = _) _ ?_ ?_); (· rfl); (conv => whnf))
    | ((with_reducible refine @And.intro (@LE.le Nat _ _ _) _ ?_ ?_); (· (first | exact Nat.zero_le _ | exact Nat.le_of_ble_eq_true rfl | omega)); (conv => whnf))
    | ((with_reducible refine @And.intro (@LT.lt Nat _ _ _) _ ?_ ?_); (· omega); (conv => whnf))
    | ((with_reducible refine @And.intro (∃ _, _ = _) _ ?_ ?_); (· exact ⟨_, rfl⟩); (conv => whnf))
    | ((with_reducible refine @And.intro (_ ∨ _) _ ?_ ?_); (· (first | exact Or.inl rfl | exact Or.inr rfl | exact t_b01 _ | assumption)); (conv => whnf))
    | ((with_reducible refine @And.intro (¬ (_ = _)) _ ?_ ?_); (· first | assumption | (with_reducible assumption)); (conv => whnf))
    | (refine hX _ _ _ _ _ _ ?_; (conv => whnf); fail_if_success show False)
    | (rw [c_si]; (conv => whnf))
    | (refine ⟨_, rfl, ?_⟩; (conv => whnf))
    | (refine ⟨_, _, rfl, ?_⟩; (conv => whnf))
    | (refine ⟨_, _, _, rfl, ?_⟩; (conv => whnf))
    | (refine ⟨_, _, _, _, rfl, ?_⟩; (conv => whnf))
    | (refine ⟨3,Or.inr (Or.inl rfl),a,x,y,rfl,ha,?_⟩; (conv => whnf))
    | (refine And.intro (fun c => ?_) (fun c => ?_) <;> (first | (exact absurd c (by decide +kernel)) | (conv => whnf)))
    | fail)
  exact hQ
theorem ct_X6_init : xm_Ct cI yX6_init (ws_ yX6_init cX6_init 3 none) 3 0 0 S_X6_init := xm_enter (rt := 2) (init := true) (by decide +kernel) rfl (fun h => by rfl) (Or.inr (Or.inr (Or.inl ⟨rfl, rfl⟩))) (oX6_init) body_X6_init
theorem cv_X6_init {own : String} {cc : ByteArray} {fr pc idx : Nat} (hdg : decode cc pc = .ok (.invokespecial idx, 3)) (hl : xm_ml own idx yX6_init) (hfr : 3 < fr) : xm_CallOK cI own cc fr pc (pc + 3) 3 0 0 S_X6_init := xm_callI cI_good (ct_X6_init) hdg hl q643 q140 q644 rfl rec_X6_init (by decide +kernel) hfr (by decide)
abbrev bX7_init_0 : List xE := [(.aload_n 0, 1, 0, 0, 0), (.aload_n 1, 2, 0, 0, 0), (.aload_n 2, 3, 0, 0, 0), (.invokespecial 1, 6, 0, 0, 9), (.return_, 7, 0, 0, 0)]
abbrev kX7_init : List (Nat × List xE) := [(0, bX7_init_0)]
abbrev lX7_init : List (Nat × Nat × Nat × xS) := [(3, 0, 0, S_X4_init)]
theorem oX7_init_0  : xm_okb cI RX7 cX7_init true 3 lX7_init bX7_init_0 0 := xo_0 dX7_init_0 rfl trivial (xo_0 dX7_init_1 rfl trivial (xo_0 dX7_init_2 rfl trivial (xo_c rfl (cv_X4_init dX7_init_3 (Or.inl q631) (by decide)) (xo_0 dX7_init_6 rfl trivial (xo_n)))))
theorem oX7_init  : ∀ q ∈ kX7_init, xm_okb cI RX7 cX7_init true 3 lX7_init q.2 q.1 := by
  intro q hq
  simp only [List.mem_cons, List.not_mem_nil, or_false] at hq
  subst hq
  exact oX7_init_0  
def S_X7_init : xS := S_two 4
theorem rec_X7_init : ∀ as w K KX, S_X7_init as w K KX → ∃ a as', as = .ref a :: as' := rec_two
theorem body_X7_init : xm_Body 3 2 0 0 [] lX7_init kX7_init S_X7_init := by
  intro X avs w Q QX hX0 hS
  have hG := xm_go [] hX0
  have hX := xm_go [] hX0
  clear hX0
  obtain ⟨a, x, y, rfl, ha, hQ⟩ := hS
  refine ⟨rfl, ?_⟩
  repeat' (first
    | ((with_reducible refine @And.intro (vp_in _ _) _ ?_ ?_); (· (first | with_reducible assumption | ((with_reducible refine t_vin ?_); decide) | ((with_reducible refine vp_in_nI ?_ ?_) <;> first | omega | decide) | (simp (disch := omega) only [xl_n, xl_m, nI_dec, nI_sb, nI_add, pk_mul]; (with_reducible refine vp_in_nI ?_ ?_) <;> first | omega | decide))); (conv => whnf))
    | (refine And.intro (by first | with_reducible assumption | exact (show cL _ _ = _ from rfl) | decide) ?_; (conv => whnf))
    | ((with_reducible refine @And.intro (_ = _) _ ?_ ?_); (· rfl); (conv => whnf))
    | ((with_reducible refine @And.intro (@LE.le Nat _ _ _) _ ?_ ?_); (· (first | exact Nat.zero_le _ | exact Nat.le_of_ble_eq_true rfl | omega)); (conv => whnf))
    | ((with_reducible refine @And.intro (@LT.lt Nat _ _ _) _ ?_ ?_); (· omega); (conv => whnf))
    | ((with_reducible refine @And.intro (∃ _, _ = _) _ ?_ ?_); (· exact ⟨_, rfl⟩); (conv => whnf))
    | ((with_reducible refine @And.intro (_ ∨ _) _ ?_ ?_); (· (first | exact Or.inl rfl | exact Or.inr rfl | exact t_b01 _ | assumption)); (conv => whnf))
    | ((with_reducible refine @And.intro (¬ (_ = _)) _ ?_ ?_); (· first | assumption | (with_reducible assumption)); (conv => whnf))
    | (refine hX _ _ _ _ _ _ ?_; (conv => whnf); fail_if_success show False)
    | (rw [c_si]; (conv => whnf))
    | (refine ⟨_, rfl, ?_⟩; (conv => whnf))
    | (refine ⟨_, _, rfl, ?_⟩; (conv => whnf))
    | (refine ⟨_, _, _, rfl, ?_⟩; (conv => whnf))
    | (refine ⟨_, _, _, _, rfl, ?_⟩; (conv => whnf))
    | (refine ⟨4,Or.inr (Or.inr (Or.inl rfl)),a,x,y,rfl,ha,?_⟩; (conv => whnf))
    | (refine And.intro (fun c => ?_) (fun c => ?_) <;> (first | (exact absurd c (by decide +kernel)) | (conv => whnf)))
    | fail)
  exact hQ
theorem ct_X7_init : xm_Ct cI yX7_init (ws_ yX7_init cX7_init 3 none) 3 0 0 S_X7_init := xm_enter (rt := 2) (init := true) (by decide +kernel) rfl (fun h => by rfl) (Or.inr (Or.inr (Or.inl ⟨rfl, rfl⟩))) (oX7_init) body_X7_init
theorem cv_X7_init {own : String} {cc : ByteArray} {fr pc idx : Nat} (hdg : decode cc pc = .ok (.invokespecial idx, 3)) (hl : xm_ml own idx yX7_init) (hfr : 3 < fr) : xm_CallOK cI own cc fr pc (pc + 3) 3 0 0 S_X7_init := xm_callI cI_good (ct_X7_init) hdg hl q629 q141 q630 rfl rec_X7_init (by decide +kernel) hfr (by decide)
