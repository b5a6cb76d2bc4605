/-! ===== the component: both, reach ===== -/
set_option maxRecDepth 100000
set_option maxHeartbeats 4000000
/-- all puppets have strings for the act's laughs -/
def c_stg (G : gG) (T : gT) (a n : Nat) : Bool := !t_ex n fun i => !decide (glaugh G a ≤ gs T (gpup G a i))
theorem c_stg_t {G : gG} {T : gT} {a : Nat} (h : c_stg G T a (gmany G a) = true) : ∀ q, q ∈ g_act G a → q.2 ≤ gs T q.1 := by
  intro q hq
  obtain ⟨i, hi, rfl⟩ := g_actN_in hq
  unfold c_stg at h
  rw [Bool.not_eq_true'] at h
  have := t_ex_n h hi
  rw [Bool.not_eq_false', decide_eq_true_eq] at this
  exact this
theorem c_stg_f {G : gG} {T : gT} {a : Nat} (h : c_stg G T a (gmany G a) = false) : ∃ q, q ∈ g_act G a ∧ ¬ q.2 ≤ gs T q.1 := by
  unfold c_stg at h
  rw [Bool.not_eq_false'] at h
  obtain ⟨i, hi, e⟩ := t_ex_e h
  rw [Bool.not_eq_true', decide_eq_false_iff_not] at e
  exact ⟨(gpup G a i, glaugh G a), List.mem_map.mpr ⟨i, List.mem_range.mpr hi, rfl⟩, e⟩
abbrev bX1_isStrung_0 : List xE := [(.iconst 0, 1, 0, 0, 0), (.istore_n 2, 2, 0, 0, 0)]
abbrev bX1_isStrung_2 : List xE := [(.iload_n 2, 3, 0, 0, 0), (.aload_n 1, 4, 0, 0, 0), (.getfield 328, 7, 11, 2, 0), (.if_icmp .ge 32, 10, 0, 39, 0), (.aload_n 0, 11, 0, 0, 0), (.getfield 58, 14, 0, 5, 1), (.getfield 198, 17, 7, 3, 1), (.aload_n 1, 18, 0, 0, 0), (.getfield 331, 21, 11, 1, 1), (.iload_n 2, 22, 0, 0, 0), (.iaload, 23, 0, 0, 0), (.iaload, 24, 0, 0, 0), (.aload_n 1, 25, 0, 0, 0), (.getfield 269, 28, 11, 0, 0), (.if_icmp .ge 5, 31, 0, 33, 0), (.iconst 0, 32, 0, 0, 0), (.ireturn, 33, 0, 0, 0)]
abbrev bX1_isStrung_33 : List xE := [(.iinc 2 1, 36, 0, 0, 0), (.goto (-34), 39, 0, 2, 0)]
abbrev bX1_isStrung_39 : List xE := [(.iconst 1, 40, 0, 0, 0), (.ireturn, 41, 0, 0, 0)]
abbrev kX1_isStrung : List (Nat × List xE) := [(0, bX1_isStrung_0), (2, bX1_isStrung_2), (33, bX1_isStrung_33), (39, bX1_isStrung_39)]
abbrev lX1_isStrung : List (Nat × Nat × Nat × xS) := []
theorem oX1_isStrung_0  : xm_okb cI RX1 cX1_isStrung false 1 lX1_isStrung bX1_isStrung_0 0 := xo_0 dX1_isStrung_0 rfl trivial (xo_0 dX1_isStrung_1 rfl trivial (xo_n))
theorem oX1_isStrung_2  : xm_okb cI RX1 cX1_isStrung false 1 lX1_isStrung bX1_isStrung_2 2 := xo_0 dX1_isStrung_2 rfl trivial (xo_0 dX1_isStrung_3 rfl trivial (xo_0 dX1_isStrung_4 rfl (xm_fg_of (Or.inr ⟨_, q1307⟩) (by decide) rfl (by decide) rfl rfl (Or.inl rfl) rfl) (xo_0 dX1_isStrung_7 rfl rfl (xo_0 dX1_isStrung_10 rfl trivial (xo_1 dX1_isStrung_11 rfl (xm_fg_of (Or.inl q724) (by decide) rfl (by decide) rfl rfl (Or.inl rfl) rfl) (xo_1 dX1_isStrung_14 rfl (xm_fg_of (Or.inr ⟨_, q669⟩) (by decide) rfl (by decide) rfl rfl (Or.inl rfl) rfl) (xo_0 dX1_isStrung_17 rfl trivial (xo_1 dX1_isStrung_18 rfl (xm_fg_of (Or.inr ⟨_, q1304⟩) (by decide) rfl (by decide) rfl rfl (Or.inl rfl) rfl) (xo_0 dX1_isStrung_21 rfl trivial (xo_0 dX1_isStrung_22 rfl trivial (xo_0 dX1_isStrung_23 rfl trivial (xo_0 dX1_isStrung_24 rfl trivial (xo_0 dX1_isStrung_25 rfl (xm_fg_of (Or.inr ⟨_, q1302⟩) (by decide) rfl (by decide) rfl rfl (Or.inl rfl) rfl) (xo_0 dX1_isStrung_28 rfl rfl (xo_0 dX1_isStrung_31 rfl trivial (xo_0 dX1_isStrung_32 rfl trivial (xo_n)))))))))))))))))
theorem oX1_isStrung_33  : xm_okb cI RX1 cX1_isStrung false 1 lX1_isStrung bX1_isStrung_33 33 := xo_0 dX1_isStrung_33 rfl trivial (xo_0 dX1_isStrung_36 rfl rfl (xo_n))
theorem oX1_isStrung_39  : xm_okb cI RX1 cX1_isStrung false 1 lX1_isStrung bX1_isStrung_39 39 := xo_0 dX1_isStrung_39 rfl trivial (xo_0 dX1_isStrung_40 rfl trivial (xo_n))
theorem oX1_isStrung  : ∀ q ∈ kX1_isStrung, xm_okb cI RX1 cX1_isStrung false 1 lX1_isStrung q.2 q.1 := by
  intro q hq
  simp only [List.mem_cons, List.not_mem_nil, or_false] at hq
  rcases hq with rfl | rfl | rfl | rfl
  · exact oX1_isStrung_0  
  · exact oX1_isStrung_2  
  · exact oX1_isStrung_33  
  · exact oX1_isStrung_39  
def S_X1_isStrung : xS := cU fun as P Z I Q QX => ∃ (a : Nat) (L : List lC), as = [.ref 0, .ref (80 + a)] ∧ c_good P Z I L ∧ a < P.1 ∧ Q (some (.int (t_b (c_stg (cG P I L) (cA I 5) a (gmany (cG P I L) a))))) I
theorem body_X1_isStrung : xm_Body 3 1 0 0 [] lX1_isStrung kX1_isStrung S_X1_isStrung := by
  intro X avs w Q QX hX0 hS
  have hG := xm_go [] hX0
  have hX := xm_go [2] hX0
  clear hX0
  obtain ⟨P, Z, I, rfl, a, L, rfl, hg, ha, hQ⟩ := hS
  have h6 := hg.ls.1
  have h5 := c_5 (P := P)
  have h8 := hg.ok.2.2.2
  obtain ⟨a2, a6, -, -⟩ := hg.2.2.2.1 a ha
  have ema : gmany (cG P I L) a = c_am P I a := rfl
  have el : glaugh (cG P I L) a = I (80 + a) 0 := if_pos ha
  have loop : ∀ k, k ≤ gmany (cG P I L) a → c_stg (cG P I L) (cA I 5) a k = true → X 2 [some (.ref 0), some (.ref (80 + a)), some (.int (nI k))] [] (cW P Z I) 0 0 := by
    refine t_for fun k h1 ih hs => ?_
    by_cases hk : k = gmany (cG P I L) a
    · subst hk
      have d1 : I (80 + a) 2 ≤ nI (gmany (cG P I L) a) := by rw [a2]; exact Int32.le_refl _
      rw [hs] at hQ
      clear ih
      refine hG _ _ _ _ _ _ ?_
      (conv => whnf)
      repeat' (first
        | ((with_reducible refine @And.intro (vp_in _ _) _ ?_ ?_); (· (first | with_reducible assumption | ((with_reducible refine t_vin ?_); decide) | ((with_reducible refine vp_in_nI ?_ ?_) <;> first | omega | decide) | (simp (disch := omega) only [xl_n, xl_m, nI_dec, nI_sb, nI_add, pk_mul]; (with_reducible refine vp_in_nI ?_ ?_) <;> first | omega | decide))); (conv => whnf))
        | (refine And.intro (by first | with_reducible assumption | exact (show cL _ _ = _ from rfl) | decide) ?_; (conv => whnf))
        | ((with_reducible refine @And.intro (_ = _) _ ?_ ?_); (· rfl); (conv => whnf))
        | ((with_reducible refine @And.intro (@LE.le Nat _ _ _) _ ?_ ?_); (· (first | exact Nat.zero_le _ | exact Nat.le_of_ble_eq_true rfl | omega)); (conv => whnf))
        | ((with_reducible refine @And.intro (@LT.lt Nat _ _ _) _ ?_ ?_); (· omega); (conv => whnf))
        | ((with_reducible refine @And.intro (∃ _, _ = _) _ ?_ ?_); (· exact ⟨_, rfl⟩); (conv => whnf))
        | ((with_reducible refine @And.intro (_ ∨ _) _ ?_ ?_); (· (first | exact Or.inl rfl | exact Or.inr rfl | exact t_b01 _ | assumption)); (conv => whnf))
        | ((with_reducible refine @And.intro (¬ (_ = _)) _ ?_ ?_); (· first | assumption | (with_reducible assumption)); (conv => whnf))
        | (refine hX _ _ _ _ _ _ ?_; (conv => whnf); fail_if_success show False)
        | (rw [c_si]; (conv => whnf))
        | (refine ⟨_, rfl, ?_⟩; (conv => whnf))
        | (refine ⟨_, _, rfl, ?_⟩; (conv => whnf))
        | (refine ⟨_, _, _, rfl, ?_⟩; (conv => whnf))
        | (refine ⟨_, _, _, _, rfl, ?_⟩; (conv => whnf))
        | (rw [c_ac ha h6]; (conv => whnf))
        | (refine And.intro (fun c => ?_) (fun c => ?_) <;> (first | (exact absurd c (by decide +kernel)) | (exact absurd c (by assumption)) | (exact False.elim (c (by assumption))) | (conv => whnf)))
        | fail)
      exact hQ
    · have hk2 : k < gmany (cG P I L) a := by omega
      have d1 : ¬ I (80 + a) 2 ≤ nI k := by
        rw [a2, nI_leI (by omega) (by omega)]
        omega
      obtain ⟨hp, e90⟩ := c_pup hg ha hk2
      have es : gs (cA I 5) (gpup (cG P I L) a k) = I (10 * 5 + 3) (gpup (cG P I L) a k) := cA_gs (by omega)
      have e90' : xm_fld (cW P Z I) (90 + a) (nI k).toNatClampNeg 0 = .int (nI (gpup (cG P I L) a k)) := by
        show Value.int (I (90 + a) (nI k).toNatClampNeg) = _
        rw [nI_clamp (by omega), e90]
      have e90'b : (cW P Z I).2.1 (90 + a) (nI k).toNatClampNeg = nI (gpup (cG P I L) a k) := Value.int.inj e90'
      have ecp : (nI (gpup (cG P I L) a k)).toNatClampNeg = gpup (cG P I L) a k := nI_clamp (by omega)
      by_cases f : I (80 + a) 0 ≤ I (10 * 5 + 3) (gpup (cG P I L) a k)
      · have d2 : I (80 + a) 0 ≤ I (10 * 5 + 3) (nI (gpup (cG P I L) a k)).toNatClampNeg := by rw [ecp]; exact f
        have nx := ih (k + 1) (by omega) (by omega) (by
          unfold c_stg at hs ⊢
          rw [Bool.not_eq_true'] at hs
          rw [t_ex_f hs (by rw [el, es, decide_eq_true f]; rfl)]
          rfl)
        clear ih hQ
        refine hG _ _ _ _ _ _ ?_
        (conv => whnf)
        repeat' (first
          | ((with_reducible refine @And.intro (vp_in _ _) _ ?_ ?_); (· (first | with_reducible assumption | ((with_reducible refine t_vin ?_); decide) | ((with_reducible refine vp_in_nI ?_ ?_) <;> first | omega | decide) | (simp (disch := omega) only [xl_n, xl_m, nI_dec, nI_sb, nI_add, pk_mul]; (with_reducible refine vp_in_nI ?_ ?_) <;> first | omega | decide))); (conv => whnf))
          | (refine And.intro (by first | with_reducible assumption | exact (show cL _ _ = _ from rfl) | decide) ?_; (conv => whnf))
          | ((with_reducible refine @And.intro (_ = _) _ ?_ ?_); (· rfl); (conv => whnf))
          | ((with_reducible refine @And.intro (@LE.le Nat _ _ _) _ ?_ ?_); (· (first | exact Nat.zero_le _ | exact Nat.le_of_ble_eq_true rfl | omega)); (conv => whnf))
          | ((with_reducible refine @And.intro (@LT.lt Nat _ _ _) _ ?_ ?_); (· omega); (conv => whnf))
          | ((with_reducible refine @And.intro (∃ _, _ = _) _ ?_ ?_); (· exact ⟨_, rfl⟩); (conv => whnf))
          | ((with_reducible refine @And.intro (_ ∨ _) _ ?_ ?_); (· (first | exact Or.inl rfl | exact Or.inr rfl | exact t_b01 _ | assumption)); (conv => whnf))
          | ((with_reducible refine @And.intro (¬ (_ = _)) _ ?_ ?_); (· first | assumption | (with_reducible assumption)); (conv => whnf))
          | (refine hX _ _ _ _ _ _ ?_; (conv => whnf); fail_if_success show False)
          | (rw [c_si]; (conv => whnf))
          | (refine ⟨_, rfl, ?_⟩; (conv => whnf))
          | (refine ⟨_, _, rfl, ?_⟩; (conv => whnf))
          | (refine ⟨_, _, _, rfl, ?_⟩; (conv => whnf))
          | (refine ⟨_, _, _, _, rfl, ?_⟩; (conv => whnf))
          | (rw [c_ac ha h6]; (conv => whnf))
          | (rw [c_af ha h6]; (conv => whnf))
          | (rw [c_av ha h6]; (conv => whnf))
          | (rw [e90']; (conv => whnf))
          | (rw [e90'b]; (conv => whnf))
          | (rw [c_tl h5]; (conv => whnf))
          | (rw [c_t7 h5]; (conv => whnf))
          | (rw [c_tf h5 (by decide)]; (conv => whnf))
          | (rw [c_t0 h5]; (conv => whnf))
          | (rw [c_t1 h5]; (conv => whnf))
          | (rw [c_t2 h5]; (conv => whnf))
          | (rw [c_t3 h5]; (conv => whnf))
          | (rw [c_t4 h5]; (conv => whnf))
          | (rw [c_t5 h5]; (conv => whnf))
          | (refine And.intro ⟨_, c_tl h5⟩ ?_; (conv => whnf))
          | (refine And.intro (fun c => ?_) (fun c => ?_) <;> (first | (exact absurd c (by decide +kernel)) | (exact absurd c (by assumption)) | (exact False.elim (c (by assumption))) | (conv => whnf)))
          | fail)
        clear hX hG
        simp (disch := omega) only [xl_n, xl_m, nI_dec, nI_sb, xl_0, xl_1, cW_i, Nat.add_zero, Nat.reduceAdd, Nat.reduceMul, t_bn0, t_bn1, Classical.not_not, t_lt, nI_add, nI_1, pk_mul, nI_clamp, c_si, nI_eq, nI_leI, nM_ne, nM_ne, xm_set, xm_lv0, xm_psh] at *
        exact nx
      · have d2 : ¬ I (80 + a) 0 ≤ I (10 * 5 + 3) (nI (gpup (cG P I L) a k)).toNatClampNeg := by rw [ecp]; exact f
        have e0 : c_stg (cG P I L) (cA I 5) a (gmany (cG P I L) a) = false := by
          unfold c_stg
          rw [t_ex_t hk2 (by rw [el, es, decide_eq_false f]; rfl)]
          rfl
        rw [e0] at hQ
        clear ih
        refine hG _ _ _ _ _ _ ?_
        (conv => whnf)
        repeat' (first
          | ((with_reducible refine @And.intro (vp_in _ _) _ ?_ ?_); (· (first | with_reducible assumption | ((with_reducible refine t_vin ?_); decide) | ((with_reducible refine vp_in_nI ?_ ?_) <;> first | omega | decide) | (simp (disch := omega) only [xl_n, xl_m, nI_dec, nI_sb, nI_add, pk_mul]; (with_reducible refine vp_in_nI ?_ ?_) <;> first | omega | decide))); (conv => whnf))
          | (refine And.intro (by first | with_reducible assumption | exact (show cL _ _ = _ from rfl) | decide) ?_; (conv => whnf))
          | ((with_reducible refine @And.intro (_ = _) _ ?_ ?_); (· rfl); (conv => whnf))
          | ((with_reducible refine @And.intro (@LE.le Nat _ _ _) _ ?_ ?_); (· (first | exact Nat.zero_le _ | exact Nat.le_of_ble_eq_true rfl | omega)); (conv => whnf))
          | ((with_reducible refine @And.intro (@LT.lt Nat _ _ _) _ ?_ ?_); (· omega); (conv => whnf))
          | ((with_reducible refine @And.intro (∃ _, _ = _) _ ?_ ?_); (· exact ⟨_, rfl⟩); (conv => whnf))
          | ((with_reducible refine @And.intro (_ ∨ _) _ ?_ ?_); (· (first | exact Or.inl rfl | exact Or.inr rfl | exact t_b01 _ | assumption)); (conv => whnf))
          | ((with_reducible refine @And.intro (¬ (_ = _)) _ ?_ ?_); (· first | assumption | (with_reducible assumption)); (conv => whnf))
          | (refine hX _ _ _ _ _ _ ?_; (conv => whnf); fail_if_success show False)
          | (rw [c_si]; (conv => whnf))
          | (refine ⟨_, rfl, ?_⟩; (conv => whnf))
          | (refine ⟨_, _, rfl, ?_⟩; (conv => whnf))
          | (refine ⟨_, _, _, rfl, ?_⟩; (conv => whnf))
          | (refine ⟨_, _, _, _, rfl, ?_⟩; (conv => whnf))
          | (rw [c_ac ha h6]; (conv => whnf))
          | (rw [c_af ha h6]; (conv => whnf))
          | (rw [c_av ha h6]; (conv => whnf))
          | (rw [e90']; (conv => whnf))
          | (rw [e90'b]; (conv => whnf))
          | (rw [c_tl h5]; (conv => whnf))
          | (rw [c_t7 h5]; (conv => whnf))
          | (rw [c_tf h5 (by decide)]; (conv => whnf))
          | (rw [c_t0 h5]; (conv => whnf))
          | (rw [c_t1 h5]; (conv => whnf))
          | (rw [c_t2 h5]; (conv => whnf))
          | (rw [c_t3 h5]; (conv => whnf))
          | (rw [c_t4 h5]; (conv => whnf))
          | (rw [c_t5 h5]; (conv => whnf))
          | (refine And.intro ⟨_, c_tl h5⟩ ?_; (conv => whnf))
          | (refine And.intro (fun c => ?_) (fun c => ?_) <;> (first | (exact absurd c (by decide +kernel)) | (exact absurd c (by assumption)) | (exact False.elim (c (by assumption))) | (conv => whnf)))
          | fail)
        exact hQ
  refine ⟨rfl, ?_⟩
  have fin := loop 0 (Nat.zero_le _) rfl
  clear loop
  repeat' (first
    | ((with_reducible refine @And.intro (vp_in _ _) _ ?_ ?_); (· (first | with_reducible assumption | ((with_reducible refine t_vin ?_); decide) | ((with_reducible refine vp_in_nI ?_ ?_) <;> first | omega | decide) | (simp (disch := omega) only [xl_n, xl_m, nI_dec, nI_sb, nI_add, pk_mul]; (with_reducible refine vp_in_nI ?_ ?_) <;> first | omega | decide))); (conv => whnf))
    | (refine And.intro (by first | with_reducible assumption | exact (show cL _ _ = _ from rfl) | decide) ?_; (conv => whnf))
    | ((with_reducible refine @And.intro (_ = _) _ ?_ ?_); (· rfl); (conv => whnf))
    | ((with_reducible refine @And.intro (@LE.le Nat _ _ _) _ ?_ ?_); (· (first | exact Nat.zero_le _ | exact Nat.le_of_ble_eq_true rfl | omega)); (conv => whnf))
    | ((with_reducible refine @And.intro (@LT.lt Nat _ _ _) _ ?_ ?_); (· omega); (conv => whnf))
    | ((with_reducible refine @And.intro (∃ _, _ = _) _ ?_ ?_); (· exact ⟨_, rfl⟩); (conv => whnf))
    | ((with_reducible refine @And.intro (_ ∨ _) _ ?_ ?_); (· (first | exact Or.inl rfl | exact Or.inr rfl | exact t_b01 _ | assumption)); (conv => whnf))
    | ((with_reducible refine @And.intro (¬ (_ = _)) _ ?_ ?_); (· first | assumption | (with_reducible assumption)); (conv => whnf))
    | (refine hX _ _ _ _ _ _ ?_; (conv => whnf); fail_if_success show False)
    | (rw [c_si]; (conv => whnf))
    | (refine ⟨_, rfl, ?_⟩; (conv => whnf))
    | (refine ⟨_, _, rfl, ?_⟩; (conv => whnf))
    | (refine ⟨_, _, _, rfl, ?_⟩; (conv => whnf))
    | (refine ⟨_, _, _, _, rfl, ?_⟩; (conv => whnf))
    | (refine And.intro (fun c => ?_) (fun c => ?_) <;> (first | (exact absurd c (by decide +kernel)) | (conv => whnf)))
    | fail)
  exact fin
theorem ct_X1_isStrung : xm_Ct cI yX1_isStrung (ws_ yX1_isStrung cX1_isStrung 3 (some .boolean)) 1 0 0 S_X1_isStrung := xm_enter (rt := 1) (init := false) (by decide +kernel) rfl (fun h => by cases h) (Or.inr (Or.inl ⟨rfl, Or.inl rfl⟩)) (oX1_isStrung) body_X1_isStrung
theorem cv_X1_isStrung {own : String} {cc : ByteArray} {fr pc idx : Nat} (hdg : decode cc pc = .ok (.invokevirtual idx, 3)) (hl : xm_ml own idx yX1_isStrung) (hfr : 1 < fr) : xm_CallOK cI own cc fr pc (pc + 3) 2 0 0 (xm_this 0 S_X1_isStrung) := xm_callV 0 cI_good (ct_X1_isStrung) hdg hl q1864 qs45 q116 q1865 rfl rfl (by decide +kernel) hfr (by decide)
theorem g_is_any {L : List (List Int32)} : (L.any fun _ => true) = g_is L := by
  cases L with
  | nil => rfl
  | cons c L => rfl
theorem g_two_at {G : gG} {a b i p : Nat} {l : Int32} (h : (g_act G a ++ g_act G b)[i]? = some (p, l)) : p = c_two G a b i := by
  unfold c_two
  have ea : (g_act G a).length = gmany G a := g_actN_n
  by_cases q : i < gmany G a
  · rw [List.getElem?_append_left (by omega), g_act_at q] at h
    cases h
    rw [if_pos q]
  · rw [List.getElem?_append_right (by omega), ea] at h
    have hi : i - gmany G a < gmany G b := by
      have := (List.getElem?_eq_some_iff.mp h).1
      have eb : (g_act G b).length = gmany G b := g_actN_n
      omega
    rw [g_act_at hi] at h
    cases h
    rw [if_neg q]
abbrev bX1_both_0 : List xE := [(.aload_n 0, 1, 0, 0, 0), (.iload_n 1, 2, 0, 0, 0), (.invokevirtual 262, 5, 0, 0, 9), (.aload_n 0, 6, 0, 0, 0), (.iload_n 2, 7, 0, 0, 0), (.invokevirtual 262, 10, 0, 0, 9), (.aload_n 0, 11, 0, 0, 0), (.iload_n 1, 12, 0, 0, 0), (.iload_n 2, 13, 0, 0, 0), (.if_icmp .eq 7, 16, 0, 20, 0), (.iconst 1, 17, 0, 0, 0), (.goto 4, 20, 0, 21, 0)]
abbrev bX1_both_20 : List xE := [(.iconst 0, 21, 0, 0, 0)]
abbrev bX1_both_21 : List xE := [(.invokevirtual 160, 24, 0, 1, 9), (.aload_n 0, 25, 0, 0, 0), (.iload_n 1, 26, 0, 0, 0), (.invokevirtual 265, 29, 0, 2, 9), (.astore_n 3, 30, 0, 0, 0), (.aload_n 0, 31, 0, 0, 0), (.iload_n 2, 32, 0, 0, 0), (.invokevirtual 265, 35, 0, 2, 9), (.astore 4, 37, 0, 0, 0), (.aload_n 3, 38, 0, 0, 0), (.getfield 272, 41, 11, 3, 0), (.aload 4, 43, 0, 0, 0), (.getfield 272, 46, 11, 3, 0), (.iand, 47, 0, 0, 0), (.ifCond .ne 43, 50, 0, 90, 0), (.aload_n 0, 51, 0, 0, 0), (.aload_n 3, 52, 0, 0, 0), (.invokevirtual 384, 55, 0, 3, 9), (.ifCond .eq 35, 58, 0, 90, 0), (.aload_n 0, 59, 0, 0, 0), (.aload 4, 61, 0, 0, 0), (.invokevirtual 384, 64, 0, 3, 9), (.ifCond .eq 26, 67, 0, 90, 0), (.aload_n 0, 68, 0, 0, 0), (.aload_n 3, 69, 0, 0, 0), (.aload 4, 71, 0, 0, 0), (.iconst 0, 72, 0, 0, 0), (.aload_n 0, 73, 0, 0, 0), (.getfield 58, 76, 0, 5, 1), (.invokevirtual 204, 79, 0, 4, 9), (.iconst 0, 80, 0, 0, 0), (.invokevirtual 380, 83, 0, 5, 9), (.ifCond .eq 7, 86, 0, 90, 0), (.iconst 1, 87, 0, 0, 0), (.goto 4, 90, 0, 91, 0)]
abbrev bX1_both_90 : List xE := [(.iconst 0, 91, 0, 0, 0)]
abbrev bX1_both_91 : List xE := [(.ireturn, 92, 0, 0, 0)]
abbrev kX1_both : List (Nat × List xE) := [(0, bX1_both_0), (20, bX1_both_20), (21, bX1_both_21), (90, bX1_both_90), (91, bX1_both_91)]
abbrev lX1_both : List (Nat × Nat × Nat × xS) := [(2, 1, 6, xm_this 0 S_X1_needAct), (2, 1, 6, xm_this 0 S_X1_need), (2, 0, 0, xm_this 0 S_X1_actOf), (2, 0, 0, xm_this 0 S_X1_isStrung), (1, 0, 0, xm_this 7 S_X10_alive), (6, 0, 0, xm_this 0 (S_X1_bothOn 13))]
theorem oX1_both_0  : xm_okb cI RX1 cX1_both false 23 lX1_both bX1_both_0 0 := xo_0 dX1_both_0 rfl trivial (xo_0 dX1_both_1 rfl trivial (xo_c rfl (cv_X1_needAct dX1_both_2 (Or.inl q1618) (by decide)) (xo_0 dX1_both_5 rfl trivial (xo_0 dX1_both_6 rfl trivial (xo_c rfl (cv_X1_needAct dX1_both_7 (Or.inl q1618) (by decide)) (xo_0 dX1_both_10 rfl trivial (xo_0 dX1_both_11 rfl trivial (xo_0 dX1_both_12 rfl trivial (xo_0 dX1_both_13 rfl rfl (xo_0 dX1_both_16 rfl trivial (xo_0 dX1_both_17 rfl rfl (xo_n))))))))))))
theorem oX1_both_20  : xm_okb cI RX1 cX1_both false 23 lX1_both bX1_both_20 20 := xo_0 dX1_both_20 rfl trivial (xo_n)
theorem oX1_both_21  : xm_okb cI RX1 cX1_both false 23 lX1_both bX1_both_21 21 := xo_c rfl (cv_X1_need dX1_both_21 (Or.inl q1030) (by decide)) (xo_0 dX1_both_24 rfl trivial (xo_0 dX1_both_25 rfl trivial (xo_c rfl (cv_X1_actOf dX1_both_26 (Or.inl q822) (by decide)) (xo_0 dX1_both_29 rfl trivial (xo_0 dX1_both_30 rfl trivial (xo_0 dX1_both_31 rfl trivial (xo_c rfl (cv_X1_actOf dX1_both_32 (Or.inl q822) (by decide)) (xo_0 dX1_both_35 rfl trivial (xo_0 dX1_both_37 rfl trivial (xo_0 dX1_both_38 rfl (xm_fg_of (Or.inr ⟨_, q1310⟩) (by decide) rfl (by decide) rfl rfl (Or.inl rfl) rfl) (xo_0 dX1_both_41 rfl trivial (xo_0 dX1_both_43 rfl (xm_fg_of (Or.inr ⟨_, q1310⟩) (by decide) rfl (by decide) rfl rfl (Or.inl rfl) rfl) (xo_0 dX1_both_46 rfl trivial (xo_0 dX1_both_47 rfl rfl (xo_0 dX1_both_50 rfl trivial (xo_0 dX1_both_51 rfl trivial (xo_c rfl (cv_X1_isStrung dX1_both_52 (Or.inl q1862) (by decide)) (xo_0 dX1_both_55 rfl rfl (xo_0 dX1_both_58 rfl trivial (xo_0 dX1_both_59 rfl trivial (xo_c rfl (cv_X1_isStrung dX1_both_61 (Or.inl q1862) (by decide)) (xo_0 dX1_both_64 rfl rfl (xo_0 dX1_both_67 rfl trivial (xo_0 dX1_both_68 rfl trivial (xo_0 dX1_both_69 rfl trivial (xo_0 dX1_both_71 rfl trivial (xo_0 dX1_both_72 rfl trivial (xo_1 dX1_both_73 rfl (xm_fg_of (Or.inl q724) (by decide) rfl (by decide) rfl rfl (Or.inl rfl) rfl) (xo_c rfl (cv_X10_alive dX1_both_76 (Or.inl q802) (by decide)) (xo_0 dX1_both_79 rfl trivial (xo_c rfl (cv_X1_bothOn dX1_both_80 (Or.inl q1866) (by decide)) (xo_0 dX1_both_83 rfl rfl (xo_0 dX1_both_86 rfl trivial (xo_0 dX1_both_87 rfl rfl (xo_n)))))))))))))))))))))))))))))))))))
theorem oX1_both_90  : xm_okb cI RX1 cX1_both false 23 lX1_both bX1_both_90 90 := xo_0 dX1_both_90 rfl trivial (xo_n)
theorem oX1_both_91  : xm_okb cI RX1 cX1_both false 23 lX1_both bX1_both_91 91 := xo_0 dX1_both_91 rfl trivial (xo_n)
theorem oX1_both  : ∀ q ∈ kX1_both, xm_okb cI RX1 cX1_both false 23 lX1_both q.2 q.1 := by
  intro q hq
  simp only [List.mem_cons, List.not_mem_nil, or_false] at hq
  rcases hq with rfl | rfl | rfl | rfl | rfl
  · exact oX1_both_0  
  · exact oX1_both_20  
  · exact oX1_both_21  
  · exact oX1_both_90  
  · exact oX1_both_91  
def S_X1_both : xS := cU fun as P Z I Q QX => ∃ a b L, as = [.ref 0, .int a, .int b] ∧ c_good P Z I L ∧ g_ok (cG P I L) ∧ c_P P Z L (cG P I L) Q QX (q_both (cG P I L) a b)
theorem body_X1_both : xm_Body 5 1 3 18 [] lX1_both kX1_both S_X1_both := by
  intro X avs w Q QX hX0 hS
  have hG := xm_go [] hX0
  have hX := xm_go [] hX0
  clear hX0
  obtain ⟨P, Z, I, rfl, a, b, L, rfl, hg, hk0, hQ⟩ := hS
  have hok := hg.ok
  obtain ⟨hn, h9, hm, h8⟩ := id hok
  have h5 := c_5 (P := P)
  have hi := hg.now.2.2.1
  have hl := hg.ls
  obtain ⟨h6, hs, hc, hc2⟩ := id hl
  refine ⟨rfl, ?_⟩
  repeat' (first
    | ((with_reducible refine @And.intro (vp_in _ _) _ ?_ ?_); (· (first | with_reducible assumption | ((with_reducible refine t_vin ?_); decide) | ((with_reducible refine vp_in_nI ?_ ?_) <;> first | omega | decide) | (simp (disch := omega) only [xl_n, xl_m, nI_dec, nI_sb, nI_add, pk_mul]; (with_reducible refine vp_in_nI ?_ ?_) <;> first | omega | decide))); (conv => whnf))
    | (refine And.intro (by first | with_reducible assumption | exact (show cL _ _ = _ from rfl) | decide) ?_; (conv => whnf))
    | ((with_reducible refine @And.intro (_ = _) _ ?_ ?_); (· rfl); (conv => whnf))
    | ((with_reducible refine @And.intro (@LE.le Nat _ _ _) _ ?_ ?_); (· (first | exact Nat.zero_le _ | exact Nat.le_of_ble_eq_true rfl | omega)); (conv => whnf))
    | ((with_reducible refine @And.intro (@LT.lt Nat _ _ _) _ ?_ ?_); (· omega); (conv => whnf))
    | ((with_reducible refine @And.intro (∃ _, _ = _) _ ?_ ?_); (· exact ⟨_, rfl⟩); (conv => whnf))
    | ((with_reducible refine @And.intro (_ ∨ _) _ ?_ ?_); (· (first | exact Or.inl rfl | exact Or.inr rfl | exact t_b01 _ | assumption)); (conv => whnf))
    | ((with_reducible refine @And.intro (¬ (_ = _)) _ ?_ ?_); (· first | assumption | (with_reducible assumption)); (conv => whnf))
    | (refine hX _ _ _ _ _ _ ?_; (conv => whnf); fail_if_success show False)
    | (rw [c_si]; (conv => whnf))
    | (refine ⟨_, rfl, ?_⟩; (conv => whnf))
    | (refine ⟨_, _, rfl, ?_⟩; (conv => whnf))
    | (refine ⟨_, _, _, rfl, ?_⟩; (conv => whnf))
    | (refine ⟨_, _, _, _, rfl, ?_⟩; (conv => whnf))
    | (refine ⟨a,rfl,hs,h6,?_⟩; (conv => whnf))
    | fail)
  refine ⟨fun e => ?_, fun e x hx => ?_⟩
  · obtain ⟨a, ha, rfl⟩ := t_in_of (by omega) e
    have f : g_isA (cG P I L) (nI a) = true := e
    (conv => whnf)
    repeat' (first
      | ((with_reducible refine @And.intro (vp_in _ _) _ ?_ ?_); (· (first | with_reducible assumption | ((with_reducible refine t_vin ?_); decide) | ((with_reducible refine vp_in_nI ?_ ?_) <;> first | omega | decide) | (simp (disch := omega) only [xl_n, xl_m, nI_dec, nI_sb, nI_add, pk_mul]; (with_reducible refine vp_in_nI ?_ ?_) <;> first | omega | decide))); (conv => whnf))
      | (refine And.intro (by first | with_reducible assumption | exact (show cL _ _ = _ from rfl) | decide) ?_; (conv => whnf))
      | ((with_reducible refine @And.intro (_ = _) _ ?_ ?_); (· rfl); (conv => whnf))
      | ((with_reducible refine @And.intro (@LE.le Nat _ _ _) _ ?_ ?_); (· (first | exact Nat.zero_le _ | exact Nat.le_of_ble_eq_true rfl | omega)); (conv => whnf))
      | ((with_reducible refine @And.intro (@LT.lt Nat _ _ _) _ ?_ ?_); (· omega); (conv => whnf))
      | ((with_reducible refine @And.intro (∃ _, _ = _) _ ?_ ?_); (· exact ⟨_, rfl⟩); (conv => whnf))
      | ((with_reducible refine @And.intro (_ ∨ _) _ ?_ ?_); (· (first | exact Or.inl rfl | exact Or.inr rfl | exact t_b01 _ | assumption)); (conv => whnf))
      | ((with_reducible refine @And.intro (¬ (_ = _)) _ ?_ ?_); (· first | assumption | (with_reducible assumption)); (conv => whnf))
      | (refine hX _ _ _ _ _ _ ?_; (conv => whnf); fail_if_success show False)
      | (rw [c_si]; (conv => whnf))
      | (refine ⟨_, rfl, ?_⟩; (conv => whnf))
      | (refine ⟨_, _, rfl, ?_⟩; (conv => whnf))
      | (refine ⟨_, _, _, rfl, ?_⟩; (conv => whnf))
      | (refine ⟨_, _, _, _, rfl, ?_⟩; (conv => whnf))
      | (refine ⟨b,rfl,hs,h6,?_⟩; (conv => whnf))
      | fail)
    refine ⟨fun e2 => ?_, fun e2 x hx => ?_⟩
    · obtain ⟨b, hb, rfl⟩ := t_in_of (by omega) e2
      have f2 : g_isA (cG P I L) (nI b) = true := e2
      rw [q_both, f, f2, Bool.and_true, g_ck_t, nI_clamp (by omega), nI_clamp (by omega)] at hQ
      (conv => whnf)
      by_cases eab : nI a = nI b
      · have ef : (!decide (nI a = nI b)) = false := by rw [decide_eq_true eab]; rfl
        repeat' (first
          | ((with_reducible refine @And.intro (vp_in _ _) _ ?_ ?_); (· (first | with_reducible assumption | ((with_reducible refine t_vin ?_); decide) | ((with_reducible refine vp_in_nI ?_ ?_) <;> first | omega | decide) | (simp (disch := omega) only [xl_n, xl_m, nI_dec, nI_sb, nI_add, pk_mul]; (with_reducible refine vp_in_nI ?_ ?_) <;> first | omega | decide))); (conv => whnf))
          | (refine And.intro (by first | with_reducible assumption | exact (show cL _ _ = _ from rfl) | decide) ?_; (conv => whnf))
          | ((with_reducible refine @And.intro (_ = _) _ ?_ ?_); (· rfl); (conv => whnf))
          | ((with_reducible refine @And.intro (@LE.le Nat _ _ _) _ ?_ ?_); (· (first | exact Nat.zero_le _ | exact Nat.le_of_ble_eq_true rfl | omega)); (conv => whnf))
          | ((with_reducible refine @And.intro (@LT.lt Nat _ _ _) _ ?_ ?_); (· omega); (conv => whnf))
          | ((with_reducible refine @And.intro (∃ _, _ = _) _ ?_ ?_); (· exact ⟨_, rfl⟩); (conv => whnf))
          | ((with_reducible refine @And.intro (_ ∨ _) _ ?_ ?_); (· (first | exact Or.inl rfl | exact Or.inr rfl | exact t_b01 _ | assumption)); (conv => whnf))
          | ((with_reducible refine @And.intro (¬ (_ = _)) _ ?_ ?_); (· first | assumption | (with_reducible assumption)); (conv => whnf))
          | (refine hX _ _ _ _ _ _ ?_; (conv => whnf); fail_if_success show False)
          | (rw [c_si]; (conv => whnf))
          | (refine ⟨_, rfl, ?_⟩; (conv => whnf))
          | (refine ⟨_, _, rfl, ?_⟩; (conv => whnf))
          | (refine ⟨_, _, _, rfl, ?_⟩; (conv => whnf))
          | (refine ⟨_, _, _, _, rfl, ?_⟩; (conv => whnf))
          | (refine ⟨true,rfl,?_⟩; (conv => whnf))
          | (refine ⟨false,rfl,?_⟩; (conv => whnf))
          | (refine And.intro (fun c => ?_) (fun c => ?_) <;> (first | (exact absurd c (by decide +kernel)) | (exact absurd c (by assumption)) | (exact False.elim (c (by assumption))) | (conv => whnf)))
          | fail)
        intro x hx
        exact c_ref1 hQ hg ef hx n2_0
      · rw [decide_eq_false eab, Bool.not_false, g_ck_t] at hQ
        have ea3 : g_bits (cG P I L) a = I (80 + a) 3 := (hg.2.2.2.1 a ha).2.2.1.symm
        have eb3 : g_bits (cG P I L) b = I (80 + b) 3 := (hg.2.2.2.1 b hb).2.2.1.symm
        obtain ⟨a2, a6, -, -⟩ := hg.2.2.2.1 a ha
        obtain ⟨b2, b6, -, -⟩ := hg.2.2.2.1 b hb
        rw [ea3, eb3] at hQ
        by_cases dis : I (80 + a) 3 &&& I (80 + b) 3 = nI 0
        · have d1 : I (80 + a) 3 &&& I (80 + b) 3 = 0 := dis
          rw [if_pos dis] at hQ
          have noa : ∀ z, z ∈ [a, b] → c_stg (cG P I L) (cA I 5) z (gmany (cG P I L) z) = false → g_bothL (cG P I L) a b = [] := fun z hz e => by
            obtain ⟨q, hq, hn⟩ := c_stg_f e
            refine g_cs_no ⟨q, List.mem_append.mpr ?_, hn⟩
            rcases List.mem_cons.mp hz with rfl | hz
            · exact Or.inl hq
            · rw [List.mem_singleton] at hz
              subst hz
              exact Or.inr hq
          cases sa : c_stg (cG P I L) (cA I 5) a (gmany (cG P I L) a) with
          | false =>
            rw [noa a (by simp) sa] at hQ
            have d2 : t_b (c_stg (cG P I L) (cA I 5) a (gmany (cG P I L) a)) = 0 := by rw [sa]; rfl
            repeat' (first
              | ((with_reducible refine @And.intro (vp_in _ _) _ ?_ ?_); (· (first | with_reducible assumption | ((with_reducible refine t_vin ?_); decide) | ((with_reducible refine vp_in_nI ?_ ?_) <;> first | omega | decide) | (simp (disch := omega) only [xl_n, xl_m, nI_dec, nI_sb, nI_add, pk_mul]; (with_reducible refine vp_in_nI ?_ ?_) <;> first | omega | decide))); (conv => whnf))
              | (refine And.intro (by first | with_reducible assumption | exact (show cL _ _ = _ from rfl) | decide) ?_; (conv => whnf))
              | ((with_reducible refine @And.intro (_ = _) _ ?_ ?_); (· rfl); (conv => whnf))
              | ((with_reducible refine @And.intro (@LE.le Nat _ _ _) _ ?_ ?_); (· (first | exact Nat.zero_le _ | exact Nat.le_of_ble_eq_true rfl | omega)); (conv => whnf))
              | ((with_reducible refine @And.intro (@LT.lt Nat _ _ _) _ ?_ ?_); (· omega); (conv => whnf))
              | ((with_reducible refine @And.intro (∃ _, _ = _) _ ?_ ?_); (· exact ⟨_, rfl⟩); (conv => whnf))
              | ((with_reducible refine @And.intro (_ ∨ _) _ ?_ ?_); (· (first | exact Or.inl rfl | exact Or.inr rfl | exact t_b01 _ | assumption)); (conv => whnf))
              | ((with_reducible refine @And.intro (¬ (_ = _)) _ ?_ ?_); (· first | assumption | (with_reducible assumption)); (conv => whnf))
              | (refine hX _ _ _ _ _ _ ?_; (conv => whnf); fail_if_success show False)
              | (rw [c_si]; (conv => whnf))
              | (refine ⟨_, rfl, ?_⟩; (conv => whnf))
              | (refine ⟨_, _, rfl, ?_⟩; (conv => whnf))
              | (refine ⟨_, _, _, rfl, ?_⟩; (conv => whnf))
              | (refine ⟨_, _, _, _, rfl, ?_⟩; (conv => whnf))
              | (refine ⟨true,rfl,?_⟩; (conv => whnf))
              | (refine ⟨false,rfl,?_⟩; (conv => whnf))
              | (refine ⟨a,rfl,ha,hl,?_⟩; (conv => whnf))
              | (refine ⟨b,rfl,hb,hl,?_⟩; (conv => whnf))
              | (rw [c_ac ha h6]; (conv => whnf))
              | (rw [c_ac hb h6]; (conv => whnf))
              | (refine ⟨a,L,rfl,hg,ha,?_⟩; (conv => whnf))
              | (refine And.intro (fun c => ?_) (fun c => ?_) <;> (first | (exact absurd c (by decide +kernel)) | (exact absurd c (by assumption)) | (exact False.elim (c (by assumption))) | (conv => whnf)))
              | fail)
            exact c_ask hQ hg c_sp.rf xl_n.1
          | true =>
            have d2 : ¬ t_b (c_stg (cG P I L) (cA I 5) a (gmany (cG P I L) a)) = 0 := by rw [sa]; decide +kernel
            cases sb : c_stg (cG P I L) (cA I 5) b (gmany (cG P I L) b) with
            | false =>
              rw [noa b (by simp) sb] at hQ
              have d3 : t_b (c_stg (cG P I L) (cA I 5) b (gmany (cG P I L) b)) = 0 := by rw [sb]; rfl
              repeat' (first
                | ((with_reducible refine @And.intro (vp_in _ _) _ ?_ ?_); (· (first | with_reducible assumption | ((with_reducible refine t_vin ?_); decide) | ((with_reducible refine vp_in_nI ?_ ?_) <;> first | omega | decide) | (simp (disch := omega) only [xl_n, xl_m, nI_dec, nI_sb, nI_add, pk_mul]; (with_reducible refine vp_in_nI ?_ ?_) <;> first | omega | decide))); (conv => whnf))
                | (refine And.intro (by first | with_reducible assumption | exact (show cL _ _ = _ from rfl) | decide) ?_; (conv => whnf))
                | ((with_reducible refine @And.intro (_ = _) _ ?_ ?_); (· rfl); (conv => whnf))
                | ((with_reducible refine @And.intro (@LE.le Nat _ _ _) _ ?_ ?_); (· (first | exact Nat.zero_le _ | exact Nat.le_of_ble_eq_true rfl | omega)); (conv => whnf))
                | ((with_reducible refine @And.intro (@LT.lt Nat _ _ _) _ ?_ ?_); (· omega); (conv => whnf))
                | ((with_reducible refine @And.intro (∃ _, _ = _) _ ?_ ?_); (· exact ⟨_, rfl⟩); (conv => whnf))
                | ((with_reducible refine @And.intro (_ ∨ _) _ ?_ ?_); (· (first | exact Or.inl rfl | exact Or.inr rfl | exact t_b01 _ | assumption)); (conv => whnf))
                | ((with_reducible refine @And.intro (¬ (_ = _)) _ ?_ ?_); (· first | assumption | (with_reducible assumption)); (conv => whnf))
                | (refine hX _ _ _ _ _ _ ?_; (conv => whnf); fail_if_success show False)
                | (rw [c_si]; (conv => whnf))
                | (refine ⟨_, rfl, ?_⟩; (conv => whnf))
                | (refine ⟨_, _, rfl, ?_⟩; (conv => whnf))
                | (refine ⟨_, _, _, rfl, ?_⟩; (conv => whnf))
                | (refine ⟨_, _, _, _, rfl, ?_⟩; (conv => whnf))
                | (refine ⟨true,rfl,?_⟩; (conv => whnf))
                | (refine ⟨false,rfl,?_⟩; (conv => whnf))
                | (refine ⟨a,rfl,ha,hl,?_⟩; (conv => whnf))
                | (refine ⟨b,rfl,hb,hl,?_⟩; (conv => whnf))
                | (rw [c_ac ha h6]; (conv => whnf))
                | (rw [c_ac hb h6]; (conv => whnf))
                | (refine ⟨a,L,rfl,hg,ha,?_⟩; (conv => whnf))
                | (refine ⟨b,L,rfl,hg,hb,?_⟩; (conv => whnf))
                | (refine And.intro (fun c => ?_) (fun c => ?_) <;> (first | (exact absurd c (by decide +kernel)) | (exact absurd c (by assumption)) | (exact False.elim (c (by assumption))) | (conv => whnf)))
                | fail)
              exact c_ask hQ hg c_sp.rf xl_n.1
            | true =>
              have d3 : ¬ t_b (c_stg (cG P I L) (cA I 5) b (gmany (cG P I L) b)) = 0 := by rw [sb]; decide +kernel
              repeat' (first
                | ((with_reducible refine @And.intro (vp_in _ _) _ ?_ ?_); (· (first | with_reducible assumption | ((with_reducible refine t_vin ?_); decide) | ((with_reducible refine vp_in_nI ?_ ?_) <;> first | omega | decide) | (simp (disch := omega) only [xl_n, xl_m, nI_dec, nI_sb, nI_add, pk_mul]; (with_reducible refine vp_in_nI ?_ ?_) <;> first | omega | decide))); (conv => whnf))
                | (refine And.intro (by first | with_reducible assumption | exact (show cL _ _ = _ from rfl) | decide) ?_; (conv => whnf))
                | ((with_reducible refine @And.intro (_ = _) _ ?_ ?_); (· rfl); (conv => whnf))
                | ((with_reducible refine @And.intro (@LE.le Nat _ _ _) _ ?_ ?_); (· (first | exact Nat.zero_le _ | exact Nat.le_of_ble_eq_true rfl | omega)); (conv => whnf))
                | ((with_reducible refine @And.intro (@LT.lt Nat _ _ _) _ ?_ ?_); (· omega); (conv => whnf))
                | ((with_reducible refine @And.intro (∃ _, _ = _) _ ?_ ?_); (· exact ⟨_, rfl⟩); (conv => whnf))
                | ((with_reducible refine @And.intro (_ ∨ _) _ ?_ ?_); (· (first | exact Or.inl rfl | exact Or.inr rfl | exact t_b01 _ | assumption)); (conv => whnf))
                | ((with_reducible refine @And.intro (¬ (_ = _)) _ ?_ ?_); (· first | assumption | (with_reducible assumption)); (conv => whnf))
                | (refine hX _ _ _ _ _ _ ?_; (conv => whnf); fail_if_success show False)
                | (rw [c_si]; (conv => whnf))
                | (refine ⟨_, rfl, ?_⟩; (conv => whnf))
                | (refine ⟨_, _, rfl, ?_⟩; (conv => whnf))
                | (refine ⟨_, _, _, rfl, ?_⟩; (conv => whnf))
                | (refine ⟨_, _, _, _, rfl, ?_⟩; (conv => whnf))
                | (refine ⟨true,rfl,?_⟩; (conv => whnf))
                | (refine ⟨false,rfl,?_⟩; (conv => whnf))
                | (refine ⟨a,rfl,ha,hl,?_⟩; (conv => whnf))
                | (refine ⟨b,rfl,hb,hl,?_⟩; (conv => whnf))
                | (rw [c_ac ha h6]; (conv => whnf))
                | (rw [c_ac hb h6]; (conv => whnf))
                | (refine ⟨a,L,rfl,hg,ha,?_⟩; (conv => whnf))
                | (refine ⟨b,L,rfl,hg,hb,?_⟩; (conv => whnf))
                | (refine ⟨5,rfl,h5,hok,hi,?_⟩; (conv => whnf))
                | (refine And.intro (fun c => ?_) (fun c => ?_) <;> (first | (exact absurd c (by decide +kernel)) | (exact absurd c (by assumption)) | (exact False.elim (c (by assumption))) | (conv => whnf)))
                | fail)
              refine ⟨a, b, 0, L, cA I 5, _, _, nI 0, g_act (cG P I L) a ++ g_act (cG P I L) b, rfl, hg, hk0, ha, hb, ?_, ?_, ?_, c_lu_0 (c_al_a h9), ?_⟩
              · rw [List.length_append, g_act_len, g_act_len]
                omega
              · rw [List.length_append, g_act_len, g_act_len]
                show c_am P I a + c_am P I b ≤ 12
                omega
              · intro i p l hi
                refine ⟨by rw [Nat.zero_add]; exact g_two_at hi, ?_⟩
                have := List.mem_append.mp (List.mem_of_getElem? hi)
                rcases this with h | h
                · exact c_stg_t sa _ h
                · exact c_stg_t sb _ h
              · rw [c_al (L := L) hi, g_is_any]
                have e : g_is (g_cs (cG P I L) (cA I 5) (g_alive (cK I L) (cA I 5)) (g_act (cG P I L) a ++ g_act (cG P I L) b) (nI 0)) = g_is (g_bothL (cG P I L) a b) := rfl
                rw [e]
                cases q : g_is (g_bothL (cG P I L) a b) with
                | true =>
                  rw [q] at hQ
                  have d4 : ¬ t_b true = 0 := by decide +kernel
                  (conv => whnf)
                  refine And.intro (fun c => absurd c d4) (fun _ => ?_)
                  (conv => whnf)
                  repeat' (first
                    | ((with_reducible refine @And.intro (vp_in _ _) _ ?_ ?_); (· (first | with_reducible assumption | ((with_reducible refine t_vin ?_); decide) | ((with_reducible refine vp_in_nI ?_ ?_) <;> first | omega | decide) | (simp (disch := omega) only [xl_n, xl_m, nI_dec, nI_sb, nI_add, pk_mul]; (with_reducible refine vp_in_nI ?_ ?_) <;> first | omega | decide))); (conv => whnf))
                    | (refine And.intro (by first | with_reducible assumption | exact (show cL _ _ = _ from rfl) | decide) ?_; (conv => whnf))
                    | ((with_reducible refine @And.intro (_ = _) _ ?_ ?_); (· rfl); (conv => whnf))
                    | ((with_reducible refine @And.intro (@LE.le Nat _ _ _) _ ?_ ?_); (· (first | exact Nat.zero_le _ | exact Nat.le_of_ble_eq_true rfl | omega)); (conv => whnf))
                    | ((with_reducible refine @And.intro (@LT.lt Nat _ _ _) _ ?_ ?_); (· omega); (conv => whnf))
                    | ((with_reducible refine @And.intro (∃ _, _ = _) _ ?_ ?_); (· exact ⟨_, rfl⟩); (conv => whnf))
                    | ((with_reducible refine @And.intro (_ ∨ _) _ ?_ ?_); (· (first | exact Or.inl rfl | exact Or.inr rfl | exact t_b01 _ | assumption)); (conv => whnf))
                    | ((with_reducible refine @And.intro (¬ (_ = _)) _ ?_ ?_); (· first | assumption | (with_reducible assumption)); (conv => whnf))
                    | (refine hX _ _ _ _ _ _ ?_; (conv => whnf); fail_if_success show False)
                    | (rw [c_si]; (conv => whnf))
                    | (refine ⟨_, rfl, ?_⟩; (conv => whnf))
                    | (refine ⟨_, _, rfl, ?_⟩; (conv => whnf))
                    | (refine ⟨_, _, _, rfl, ?_⟩; (conv => whnf))
                    | (refine ⟨_, _, _, _, rfl, ?_⟩; (conv => whnf))
                    | (refine And.intro (fun c => ?_) (fun c => ?_) <;> (first | (exact absurd c (by decide +kernel)) | (conv => whnf)))
                    | fail)
                  exact c_ask hQ hg c_sp.rf xl_n.2.1
                | false =>
                  rw [q] at hQ
                  have d4 : t_b false = 0 := rfl
                  (conv => whnf)
                  refine And.intro (fun _ => ?_) (fun c => absurd d4 c)
                  (conv => whnf)
                  repeat' (first
                    | ((with_reducible refine @And.intro (vp_in _ _) _ ?_ ?_); (· (first | with_reducible assumption | ((with_reducible refine t_vin ?_); decide) | ((with_reducible refine vp_in_nI ?_ ?_) <;> first | omega | decide) | (simp (disch := omega) only [xl_n, xl_m, nI_dec, nI_sb, nI_add, pk_mul]; (with_reducible refine vp_in_nI ?_ ?_) <;> first | omega | decide))); (conv => whnf))
                    | (refine And.intro (by first | with_reducible assumption | exact (show cL _ _ = _ from rfl) | decide) ?_; (conv => whnf))
                    | ((with_reducible refine @And.intro (_ = _) _ ?_ ?_); (· rfl); (conv => whnf))
                    | ((with_reducible refine @And.intro (@LE.le Nat _ _ _) _ ?_ ?_); (· (first | exact Nat.zero_le _ | exact Nat.le_of_ble_eq_true rfl | omega)); (conv => whnf))
                    | ((with_reducible refine @And.intro (@LT.lt Nat _ _ _) _ ?_ ?_); (· omega); (conv => whnf))
                    | ((with_reducible refine @And.intro (∃ _, _ = _) _ ?_ ?_); (· exact ⟨_, rfl⟩); (conv => whnf))
                    | ((with_reducible refine @And.intro (_ ∨ _) _ ?_ ?_); (· (first | exact Or.inl rfl | exact Or.inr rfl | exact t_b01 _ | assumption)); (conv => whnf))
                    | ((with_reducible refine @And.intro (¬ (_ = _)) _ ?_ ?_); (· first | assumption | (with_reducible assumption)); (conv => whnf))
                    | (refine hX _ _ _ _ _ _ ?_; (conv => whnf); fail_if_success show False)
                    | (rw [c_si]; (conv => whnf))
                    | (refine ⟨_, rfl, ?_⟩; (conv => whnf))
                    | (refine ⟨_, _, rfl, ?_⟩; (conv => whnf))
                    | (refine ⟨_, _, _, rfl, ?_⟩; (conv => whnf))
                    | (refine ⟨_, _, _, _, rfl, ?_⟩; (conv => whnf))
                    | (refine And.intro (fun c => ?_) (fun c => ?_) <;> (first | (exact absurd c (by decide +kernel)) | (conv => whnf)))
                    | fail)
                  exact c_ask hQ hg c_sp.rf xl_n.1
        · have d1 : ¬ I (80 + a) 3 &&& I (80 + b) 3 = 0 := dis
          rw [if_neg dis] at hQ
          repeat' (first
            | ((with_reducible refine @And.intro (vp_in _ _) _ ?_ ?_); (· (first | with_reducible assumption | ((with_reducible refine t_vin ?_); decide) | ((with_reducible refine vp_in_nI ?_ ?_) <;> first | omega | decide) | (simp (disch := omega) only [xl_n, xl_m, nI_dec, nI_sb, nI_add, pk_mul]; (with_reducible refine vp_in_nI ?_ ?_) <;> first | omega | decide))); (conv => whnf))
            | (refine And.intro (by first | with_reducible assumption | exact (show cL _ _ = _ from rfl) | decide) ?_; (conv => whnf))
            | ((with_reducible refine @And.intro (_ = _) _ ?_ ?_); (· rfl); (conv => whnf))
            | ((with_reducible refine @And.intro (@LE.le Nat _ _ _) _ ?_ ?_); (· (first | exact Nat.zero_le _ | exact Nat.le_of_ble_eq_true rfl | omega)); (conv => whnf))
            | ((with_reducible refine @And.intro (@LT.lt Nat _ _ _) _ ?_ ?_); (· omega); (conv => whnf))
            | ((with_reducible refine @And.intro (∃ _, _ = _) _ ?_ ?_); (· exact ⟨_, rfl⟩); (conv => whnf))
            | ((with_reducible refine @And.intro (_ ∨ _) _ ?_ ?_); (· (first | exact Or.inl rfl | exact Or.inr rfl | exact t_b01 _ | assumption)); (conv => whnf))
            | ((with_reducible refine @And.intro (¬ (_ = _)) _ ?_ ?_); (· first | assumption | (with_reducible assumption)); (conv => whnf))
            | (refine hX _ _ _ _ _ _ ?_; (conv => whnf); fail_if_success show False)
            | (rw [c_si]; (conv => whnf))
            | (refine ⟨_, rfl, ?_⟩; (conv => whnf))
            | (refine ⟨_, _, rfl, ?_⟩; (conv => whnf))
            | (refine ⟨_, _, _, rfl, ?_⟩; (conv => whnf))
            | (refine ⟨_, _, _, _, rfl, ?_⟩; (conv => whnf))
            | (refine ⟨true,rfl,?_⟩; (conv => whnf))
            | (refine ⟨false,rfl,?_⟩; (conv => whnf))
            | (refine ⟨a,rfl,ha,hl,?_⟩; (conv => whnf))
            | (refine ⟨b,rfl,hb,hl,?_⟩; (conv => whnf))
            | (rw [c_ac ha h6]; (conv => whnf))
            | (rw [c_ac hb h6]; (conv => whnf))
            | (refine And.intro (fun c => ?_) (fun c => ?_) <;> (first | (exact absurd c (by decide +kernel)) | (exact absurd c (by assumption)) | (exact False.elim (c (by assumption))) | (conv => whnf)))
            | fail)
          exact c_ask hQ hg c_sp.rf xl_n.1
    · refine c_ref0 hQ hg ?_ hx n1_0
      rw [f, Bool.true_and]
      exact e2
  · refine c_ref0 hQ hg ?_ hx n1_0
    rw [show g_isA (cG P I L) a = false from e]
    rfl
theorem ct_X1_both : xm_Ct cI yX1_both (ws_ yX1_both cX1_both 5 (some .boolean)) 23 3 18 S_X1_both := xm_enter (rt := 1) (init := false) (by decide +kernel) rfl (fun h => by cases h) (Or.inr (Or.inl ⟨rfl, Or.inl rfl⟩)) (oX1_both) body_X1_both
theorem cv_X1_both {own : String} {cc : ByteArray} {fr pc idx : Nat} (hdg : decode cc pc = .ok (.invokevirtual idx, 3)) (hl : xm_ml own idx yX1_both) (hfr : 23 < fr) : xm_CallOK cI own cc fr pc (pc + 3) 3 3 18 (xm_this 0 S_X1_both) := xm_callV 0 cI_good (ct_X1_both) hdg hl q1859 q1860 q116 q1861 rfl rfl (by decide +kernel) hfr (by decide)
