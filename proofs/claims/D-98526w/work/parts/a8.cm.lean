/-! ===== the component: there, or refused; simple questions ===== -/
set_option maxRecDepth 100000
theorem c_there.i {v : Int32} {n : Nat} {Q : Option Value → tI → Prop} {QX : Nat → Nat → tI → Prop} {I : tI} (h1 : t_in v (nI 0) (nI n - nI 1) = true → Q none I) (h2 : t_in v (nI 0) (nI n - nI 1) = false → ∀ a, 1000 ≤ a → QX 1 a (xm_u2 I 4 0 (I 4 0 + nI 1))) : c_there v n Q QX I := ⟨h1, h2⟩
abbrev bX1_needHand_0 : List xE := [(.aload_n 0, 1, 0, 0, 0), (.iload_n 1, 2, 0, 0, 0), (.aload_n 0, 3, 0, 0, 0), (.getfield 31, 6, 0, 0, 1), (.getfield 126, 9, 1, 11, 0), (.invokevirtual 129, 12, 0, 0, 9), (.return_, 13, 0, 0, 0)]
abbrev kX1_needHand : List (Nat × List xE) := [(0, bX1_needHand_0)]
abbrev lX1_needHand : List (Nat × Nat × Nat × xS) := [(3, 1, 6, xm_this 0 S_X1_needThere)]
theorem oX1_needHand_0  : xm_okb cI RX1 cX1_needHand false 7 lX1_needHand bX1_needHand_0 0 := xo_0 dX1_needHand_0 rfl trivial (xo_0 dX1_needHand_1 rfl trivial (xo_0 dX1_needHand_2 rfl trivial (xo_1 dX1_needHand_3 rfl (xm_fg_of (Or.inl q716) (by decide) rfl (by decide) rfl rfl (Or.inl rfl) rfl) (xo_0 dX1_needHand_6 rfl (xm_fg_of (Or.inr ⟨_, q556⟩) (by decide) rfl (by decide) rfl rfl (Or.inl rfl) rfl) (xo_c rfl (cv_X1_needThere dX1_needHand_9 (Or.inl q1580) (by decide)) (xo_0 dX1_needHand_12 rfl trivial (xo_n)))))))
theorem oX1_needHand  : ∀ q ∈ kX1_needHand, xm_okb cI RX1 cX1_needHand false 7 lX1_needHand q.2 q.1 := by
  intro q hq
  simp only [List.mem_cons, List.not_mem_nil, or_false] at hq
  subst hq
  exact oX1_needHand_0  
def S_X1_needHand : xS := cU fun as P X I Q QX => ∃ v, as = [.ref 0, .int v] ∧ c_ok I ∧ c_there v (c_h I) Q QX I
theorem body_X1_needHand : xm_Body 2 2 1 6 [] lX1_needHand kX1_needHand S_X1_needHand := by
  intro X avs w Q QX hX0 hS
  have hG := xm_go [] hX0
  have hX := xm_go [] hX0
  clear hX0
  obtain ⟨P, Z, I, rfl, v, rfl, hok, h1, h2⟩ := hS
  obtain ⟨hn, h9, hm, h8⟩ := id hok
  have e : xm_fld (cW P Z I) 1 11 0 = .int (nI (c_h I)) := by
    show Value.int (I 1 11) = _
    rw [hn]
  refine ⟨rfl, ?_⟩
  repeat' (first
    | ((with_reducible refine @And.intro (vp_in _ _) _ ?_ ?_); (· (first | with_reducible assumption | ((with_reducible refine t_vin ?_); decide) | ((with_reducible refine vp_in_nI ?_ ?_) <;> first | omega | decide) | (simp (disch := omega) only [xl_n, xl_m, nI_dec, nI_sb, nI_add, pk_mul]; (with_reducible refine vp_in_nI ?_ ?_) <;> first | omega | decide))); (conv => whnf))
    | (refine And.intro (by first | with_reducible assumption | exact (show cL _ _ = _ from rfl) | decide) ?_; (conv => whnf))
    | ((with_reducible refine @And.intro (_ = _) _ ?_ ?_); (· rfl); (conv => whnf))
    | ((with_reducible refine @And.intro (@LE.le Nat _ _ _) _ ?_ ?_); (· (first | exact Nat.zero_le _ | exact Nat.le_of_ble_eq_true rfl | omega)); (conv => whnf))
    | ((with_reducible refine @And.intro (@LT.lt Nat _ _ _) _ ?_ ?_); (· omega); (conv => whnf))
    | ((with_reducible refine @And.intro (∃ _, _ = _) _ ?_ ?_); (· exact ⟨_, rfl⟩); (conv => whnf))
    | ((with_reducible refine @And.intro (_ ∨ _) _ ?_ ?_); (· (first | exact Or.inl rfl | exact Or.inr rfl | exact t_b01 _ | assumption)); (conv => whnf))
    | ((with_reducible refine @And.intro (¬ (_ = _)) _ ?_ ?_); (· first | assumption | (with_reducible assumption)); (conv => whnf))
    | (refine hX _ _ _ _ _ _ ?_; (conv => whnf); fail_if_success show False)
    | (rw [c_si]; (conv => whnf))
    | (refine ⟨_, rfl, ?_⟩; (conv => whnf))
    | (refine ⟨_, _, rfl, ?_⟩; (conv => whnf))
    | (refine ⟨_, _, _, rfl, ?_⟩; (conv => whnf))
    | (refine ⟨_, _, _, _, rfl, ?_⟩; (conv => whnf))
    | (rw [e]; (conv => whnf))
    | (refine ⟨v,_,rfl,(by omega),c_there.i ?_ ?_⟩; (conv => whnf))
    | (refine And.intro (fun c => ?_) (fun c => ?_) <;> (first | (exact absurd c (by decide +kernel)) | (conv => whnf)))
    | fail)
  · exact h1 c
  · intro x hx
    exact h2 c x hx
theorem ct_X1_needHand : xm_Ct cI yX1_needHand (ws_ yX1_needHand cX1_needHand 2 none) 7 1 6 S_X1_needHand := xm_enter (rt := 2) (init := false) (by decide +kernel) rfl (fun h => by cases h) (Or.inr (Or.inr (Or.inl ⟨rfl, rfl⟩))) (oX1_needHand) body_X1_needHand
theorem cv_X1_needHand {own : String} {cc : ByteArray} {fr pc idx : Nat} (hdg : decode cc pc = .ok (.invokevirtual idx, 3)) (hl : xm_ml own idx yX1_needHand) (hfr : 7 < fr) : xm_CallOK cI own cc fr pc (pc + 3) 2 1 6 (xm_this 0 S_X1_needHand) := xm_callV 0 cI_good (ct_X1_needHand) hdg hl q1578 qs36 q116 q1579 rfl rfl (by decide +kernel) hfr (by decide)
abbrev bX1_needPuppet_0 : List xE := [(.aload_n 0, 1, 0, 0, 0), (.iload_n 1, 2, 0, 0, 0), (.aload_n 0, 3, 0, 0, 0), (.getfield 31, 6, 0, 0, 1), (.getfield 133, 9, 1, 12, 0), (.invokevirtual 129, 12, 0, 0, 9), (.return_, 13, 0, 0, 0)]
abbrev kX1_needPuppet : List (Nat × List xE) := [(0, bX1_needPuppet_0)]
abbrev lX1_needPuppet : List (Nat × Nat × Nat × xS) := [(3, 1, 6, xm_this 0 S_X1_needThere)]
theorem oX1_needPuppet_0  : xm_okb cI RX1 cX1_needPuppet false 7 lX1_needPuppet bX1_needPuppet_0 0 := xo_0 dX1_needPuppet_0 rfl trivial (xo_0 dX1_needPuppet_1 rfl trivial (xo_0 dX1_needPuppet_2 rfl trivial (xo_1 dX1_needPuppet_3 rfl (xm_fg_of (Or.inl q716) (by decide) rfl (by decide) rfl rfl (Or.inl rfl) rfl) (xo_0 dX1_needPuppet_6 rfl (xm_fg_of (Or.inr ⟨_, q560⟩) (by decide) rfl (by decide) rfl rfl (Or.inl rfl) rfl) (xo_c rfl (cv_X1_needThere dX1_needPuppet_9 (Or.inl q1580) (by decide)) (xo_0 dX1_needPuppet_12 rfl trivial (xo_n)))))))
theorem oX1_needPuppet  : ∀ q ∈ kX1_needPuppet, xm_okb cI RX1 cX1_needPuppet false 7 lX1_needPuppet q.2 q.1 := by
  intro q hq
  simp only [List.mem_cons, List.not_mem_nil, or_false] at hq
  subst hq
  exact oX1_needPuppet_0  
def S_X1_needPuppet : xS := cU fun as P X I Q QX => ∃ v, as = [.ref 0, .int v] ∧ c_ok I ∧ c_there v (c_p I) Q QX I
theorem body_X1_needPuppet : xm_Body 2 2 1 6 [] lX1_needPuppet kX1_needPuppet S_X1_needPuppet := by
  intro X avs w Q QX hX0 hS
  have hG := xm_go [] hX0
  have hX := xm_go [] hX0
  clear hX0
  obtain ⟨P, Z, I, rfl, v, rfl, hok, h1, h2⟩ := hS
  obtain ⟨hn, h9, hm, h8⟩ := id hok
  have e : xm_fld (cW P Z I) 1 12 0 = .int (nI (c_p I)) := by
    show Value.int (I 1 12) = _
    rw [hm]
  refine ⟨rfl, ?_⟩
  repeat' (first
    | ((with_reducible refine @And.intro (vp_in _ _) _ ?_ ?_); (· (first | with_reducible assumption | ((with_reducible refine t_vin ?_); decide) | ((with_reducible refine vp_in_nI ?_ ?_) <;> first | omega | decide) | (simp (disch := omega) only [xl_n, xl_m, nI_dec, nI_sb, nI_add, pk_mul]; (with_reducible refine vp_in_nI ?_ ?_) <;> first | omega | decide))); (conv => whnf))
    | (refine And.intro (by first | with_reducible assumption | exact (show cL _ _ = _ from rfl) | decide) ?_; (conv => whnf))
    | ((with_reducible refine @And.intro (_ = _) _ ?_ ?_); (· rfl); (conv => whnf))
    | ((with_reducible refine @And.intro (@LE.le Nat _ _ _) _ ?_ ?_); (· (first | exact Nat.zero_le _ | exact Nat.le_of_ble_eq_true rfl | omega)); (conv => whnf))
    | ((with_reducible refine @And.intro (@LT.lt Nat _ _ _) _ ?_ ?_); (· omega); (conv => whnf))
    | ((with_reducible refine @And.intro (∃ _, _ = _) _ ?_ ?_); (· exact ⟨_, rfl⟩); (conv => whnf))
    | ((with_reducible refine @And.intro (_ ∨ _) _ ?_ ?_); (· (first | exact Or.inl rfl | exact Or.inr rfl | exact t_b01 _ | assumption)); (conv => whnf))
    | ((with_reducible refine @And.intro (¬ (_ = _)) _ ?_ ?_); (· first | assumption | (with_reducible assumption)); (conv => whnf))
    | (refine hX _ _ _ _ _ _ ?_; (conv => whnf); fail_if_success show False)
    | (rw [c_si]; (conv => whnf))
    | (refine ⟨_, rfl, ?_⟩; (conv => whnf))
    | (refine ⟨_, _, rfl, ?_⟩; (conv => whnf))
    | (refine ⟨_, _, _, rfl, ?_⟩; (conv => whnf))
    | (refine ⟨_, _, _, _, rfl, ?_⟩; (conv => whnf))
    | (rw [e]; (conv => whnf))
    | (refine ⟨v,_,rfl,(by omega),c_there.i ?_ ?_⟩; (conv => whnf))
    | (refine And.intro (fun c => ?_) (fun c => ?_) <;> (first | (exact absurd c (by decide +kernel)) | (conv => whnf)))
    | fail)
  · exact h1 c
  · intro x hx
    exact h2 c x hx
theorem ct_X1_needPuppet : xm_Ct cI yX1_needPuppet (ws_ yX1_needPuppet cX1_needPuppet 2 none) 7 1 6 S_X1_needPuppet := xm_enter (rt := 2) (init := false) (by decide +kernel) rfl (fun h => by cases h) (Or.inr (Or.inr (Or.inl ⟨rfl, rfl⟩))) (oX1_needPuppet) body_X1_needPuppet
theorem cv_X1_needPuppet {own : String} {cc : ByteArray} {fr pc idx : Nat} (hdg : decode cc pc = .ok (.invokevirtual idx, 3)) (hl : xm_ml own idx yX1_needPuppet) (hfr : 7 < fr) : xm_CallOK cI own cc fr pc (pc + 3) 2 1 6 (xm_this 0 S_X1_needPuppet) := xm_callV 0 cI_good (ct_X1_needPuppet) hdg hl q1609 qs38 q116 q1610 rfl rfl (by decide +kernel) hfr (by decide)
/-! there: a hand, a puppet -/
theorem c_isH {P : cP} {I : tI} {L : List lC} {v : Int32} : t_in v (nI 0) (nI (c_h I) - nI 1) = g_isH (cG P I L) v := rfl
theorem c_isP {P : cP} {I : tI} {L : List lC} {v : Int32} : t_in v (nI 0) (nI (c_p I) - nI 1) = g_isP (cG P I L) v := rfl
abbrev bX1_chose_0 : List xE := [(.aload_n 0, 1, 0, 0, 0), (.iload_n 1, 2, 0, 0, 0), (.invokevirtual 217, 5, 0, 0, 9), (.aload_n 0, 6, 0, 0, 0), (.getfield 58, 9, 0, 5, 1), (.getfield 298, 12, 7, 5, 1), (.iload_n 1, 13, 0, 0, 0), (.iaload, 14, 0, 0, 0), (.ireturn, 15, 0, 0, 0)]
abbrev kX1_chose : List (Nat × List xE) := [(0, bX1_chose_0)]
abbrev lX1_chose : List (Nat × Nat × Nat × xS) := [(2, 1, 6, xm_this 0 S_X1_needHand)]
theorem oX1_chose_0  : xm_okb cI RX1 cX1_chose false 8 lX1_chose bX1_chose_0 0 := xo_0 dX1_chose_0 rfl trivial (xo_0 dX1_chose_1 rfl trivial (xo_c rfl (cv_X1_needHand dX1_chose_2 (Or.inl q1576) (by decide)) (xo_0 dX1_chose_5 rfl trivial (xo_1 dX1_chose_6 rfl (xm_fg_of (Or.inl q724) (by decide) rfl (by decide) rfl rfl (Or.inl rfl) rfl) (xo_1 dX1_chose_9 rfl (xm_fg_of (Or.inr ⟨_, q673⟩) (by decide) rfl (by decide) rfl rfl (Or.inl rfl) rfl) (xo_0 dX1_chose_12 rfl trivial (xo_0 dX1_chose_13 rfl trivial (xo_0 dX1_chose_14 rfl trivial (xo_n)))))))))
theorem oX1_chose  : ∀ q ∈ kX1_chose, xm_okb cI RX1 cX1_chose false 8 lX1_chose q.2 q.1 := by
  intro q hq
  simp only [List.mem_cons, List.not_mem_nil, or_false] at hq
  subst hq
  exact oX1_chose_0  
def S_X1_chose : xS := cU fun as P Z I Q QX => ∃ a L, as = [.ref 0, .int a] ∧ c_good P Z I L ∧ c_P P Z L (cG P I L) Q QX (q_chose (cG P I L) a)
theorem body_X1_chose : xm_Body 2 0 1 6 [] lX1_chose kX1_chose S_X1_chose := by
  intro X avs w Q QX hX0 hS
  have hG := xm_go [] hX0
  have hX := xm_go [] hX0
  clear hX0
  obtain ⟨P, Z, I, rfl, a, L, rfl, hg, hQ⟩ := hS
  have hok := hg.ok
  obtain ⟨hn, h9, hm, h8⟩ := id hok
  have h5 := c_5 (P := P)
  refine ⟨rfl, ?_⟩
  repeat' (first
    | ((with_reducible refine @And.intro (vp_in _ _) _ ?_ ?_); (· (first | with_reducible assumption | ((with_reducible refine t_vin ?_); decide) | ((with_reducible refine vp_in_nI ?_ ?_) <;> first | omega | decide) | (simp (disch := omega) only [xl_n, xl_m, nI_dec, nI_sb, nI_add, pk_mul]; (with_reducible refine vp_in_nI ?_ ?_) <;> first | omega | decide))); (conv => whnf))
    | (refine And.intro (by first | with_reducible assumption | exact (show cL _ _ = _ from rfl) | decide) ?_; (conv => whnf))
    | ((with_reducible refine @And.intro (_ = _) _ ?_ ?_); (· rfl); (conv => whnf))
    | ((with_reducible refine @And.intro (@LE.le Nat _ _ _) _ ?_ ?_); (· (first | exact Nat.zero_le _ | exact Nat.le_of_ble_eq_true rfl | omega)); (conv => whnf))
    | ((with_reducible refine @And.intro (@LT.lt Nat _ _ _) _ ?_ ?_); (· omega); (conv => whnf))
    | ((with_reducible refine @And.intro (∃ _, _ = _) _ ?_ ?_); (· exact ⟨_, rfl⟩); (conv => whnf))
    | ((with_reducible refine @And.intro (_ ∨ _) _ ?_ ?_); (· (first | exact Or.inl rfl | exact Or.inr rfl | exact t_b01 _ | assumption)); (conv => whnf))
    | ((with_reducible refine @And.intro (¬ (_ = _)) _ ?_ ?_); (· first | assumption | (with_reducible assumption)); (conv => whnf))
    | (refine hX _ _ _ _ _ _ ?_; (conv => whnf); fail_if_success show False)
    | (rw [c_si]; (conv => whnf))
    | (refine ⟨_, rfl, ?_⟩; (conv => whnf))
    | (refine ⟨_, _, rfl, ?_⟩; (conv => whnf))
    | (refine ⟨_, _, _, rfl, ?_⟩; (conv => whnf))
    | (refine ⟨_, _, _, _, rfl, ?_⟩; (conv => whnf))
    | (refine ⟨a,rfl,hok,?_⟩; (conv => whnf))
    | (rw [c_tl h5]; (conv => whnf))
    | (rw [c_t7 h5]; (conv => whnf))
    | (rw [c_tf h5 (by decide)]; (conv => whnf))
    | (rw [c_t0 h5]; (conv => whnf))
    | (rw [c_t1 h5]; (conv => whnf))
    | (rw [c_t2 h5]; (conv => whnf))
    | (rw [c_t3 h5]; (conv => whnf))
    | (rw [c_t4 h5]; (conv => whnf))
    | (rw [c_t5 h5]; (conv => whnf))
    | (refine And.intro ⟨_, c_tl h5⟩ ?_; (conv => whnf))
    | fail)
  refine ⟨fun e => ?_, fun e x hx => ?_⟩
  · obtain ⟨h, hh, rfl⟩ := t_in_of (by omega) e
    (conv => whnf)
    repeat' (first
      | ((with_reducible refine @And.intro (vp_in _ _) _ ?_ ?_); (· (first | with_reducible assumption | ((with_reducible refine t_vin ?_); decide) | ((with_reducible refine vp_in_nI ?_ ?_) <;> first | omega | decide) | (simp (disch := omega) only [xl_n, xl_m, nI_dec, nI_sb, nI_add, pk_mul]; (with_reducible refine vp_in_nI ?_ ?_) <;> first | omega | decide))); (conv => whnf))
      | (refine And.intro (by first | with_reducible assumption | exact (show cL _ _ = _ from rfl) | decide) ?_; (conv => whnf))
      | ((with_reducible refine @And.intro (_ = _) _ ?_ ?_); (· rfl); (conv => whnf))
      | ((with_reducible refine @And.intro (@LE.le Nat _ _ _) _ ?_ ?_); (· (first | exact Nat.zero_le _ | exact Nat.le_of_ble_eq_true rfl | omega)); (conv => whnf))
      | ((with_reducible refine @And.intro (@LT.lt Nat _ _ _) _ ?_ ?_); (· omega); (conv => whnf))
      | ((with_reducible refine @And.intro (∃ _, _ = _) _ ?_ ?_); (· exact ⟨_, rfl⟩); (conv => whnf))
      | ((with_reducible refine @And.intro (_ ∨ _) _ ?_ ?_); (· (first | exact Or.inl rfl | exact Or.inr rfl | exact t_b01 _ | assumption)); (conv => whnf))
      | ((with_reducible refine @And.intro (¬ (_ = _)) _ ?_ ?_); (· first | assumption | (with_reducible assumption)); (conv => whnf))
      | (refine hX _ _ _ _ _ _ ?_; (conv => whnf); fail_if_success show False)
      | (rw [c_si]; (conv => whnf))
      | (refine ⟨_, rfl, ?_⟩; (conv => whnf))
      | (refine ⟨_, _, rfl, ?_⟩; (conv => whnf))
      | (refine ⟨_, _, _, rfl, ?_⟩; (conv => whnf))
      | (refine ⟨_, _, _, _, rfl, ?_⟩; (conv => whnf))
      | (rw [c_tl h5]; (conv => whnf))
      | (rw [c_t7 h5]; (conv => whnf))
      | (rw [c_tf h5 (by decide)]; (conv => whnf))
      | (rw [c_t0 h5]; (conv => whnf))
      | (rw [c_t1 h5]; (conv => whnf))
      | (rw [c_t2 h5]; (conv => whnf))
      | (rw [c_t3 h5]; (conv => whnf))
      | (rw [c_t4 h5]; (conv => whnf))
      | (rw [c_t5 h5]; (conv => whnf))
      | (refine And.intro ⟨_, c_tl h5⟩ ?_; (conv => whnf))
      | (refine And.intro (fun c => ?_) (fun c => ?_) <;> (first | (exact absurd c (by decide +kernel)) | (conv => whnf)))
      | fail)
    have f : g_isH (cG P I L) (nI h) = true := e
    rw [q_chose, f, g_ck_t] at hQ
    refine c_ask hQ hg c_sp.rf ?_
    rw [nI_clamp (by omega)]
    exact (cA_gc (I := I) (r := 5) (by omega)).symm
  · exact c_ref hQ hg c_sp.rf e (by decide) hx (by decide +kernel) rfl
theorem ct_X1_chose : xm_Ct cI yX1_chose (ws_ yX1_chose cX1_chose 2 (some .int)) 8 1 6 S_X1_chose := xm_enter (rt := 0) (init := false) (by decide +kernel) rfl (fun h => by cases h) (Or.inl ⟨rfl, rfl⟩) (oX1_chose) body_X1_chose
theorem cv_X1_chose {own : String} {cc : ByteArray} {fr pc idx : Nat} (hdg : decode cc pc = .ok (.invokevirtual idx, 3)) (hl : xm_ml own idx yX1_chose) (hfr : 8 < fr) : xm_CallOK cI own cc fr pc (pc + 3) 2 1 6 (xm_this 0 S_X1_chose) := xm_callV 0 cI_good (ct_X1_chose) hdg hl q1676 q1677 q116 q1678 rfl rfl (by decide +kernel) hfr (by decide)
theorem c_ref0 {P : cP} {Z : cX} {I : tI} {L : List lC} {Q : Option Value → tI → Prop} {QX : Nat → Nat → tI → Prop} {what : Int32} {c : Bool} {y : gR} {a : Nat} (h : c_P P Z L (cG P I L) Q QX (g_ck (cG P I L) c what 0 y)) (hg : c_good P Z I L) (hc : c = false) (ha : 1000 ≤ a) (hw : ¬ what = nI 0) : QX 1 a (xm_u2 I 4 0 (I 4 0 + nI 1)) := c_ref h hg c_sp.rf hc (by decide) ha hw rfl
theorem c_ref1 {P : cP} {Z : cX} {I : tI} {L : List lC} {Q : Option Value → tI → Prop} {QX : Nat → Nat → tI → Prop} {what : Int32} {c : Bool} {y : gR} {a : Nat} (h : c_P P Z L (cG P I L) Q QX (g_ck (cG P I L) c what 1 y)) (hg : c_good P Z I L) (hc : c = false) (ha : 1000 ≤ a) (hw : ¬ what = nI 0) : QX 0 a (xm_u2 I 4 1 (I 4 1 + nI 1)) := c_ref h hg c_sp.rf hc (by decide) ha hw rfl
theorem n1_0 : ¬ nI 1 = nI 0 := by decide +kernel
theorem n2_0 : ¬ nI 2 = nI 0 := by decide +kernel
abbrev bX1_since_0 : List xE := [(.aload_n 0, 1, 0, 0, 0), (.iload_n 1, 2, 0, 0, 0), (.invokevirtual 217, 5, 0, 0, 9), (.aload_n 0, 6, 0, 0, 0), (.iload_n 2, 7, 0, 0, 0), (.invokevirtual 238, 10, 0, 1, 9), (.aload_n 0, 11, 0, 0, 0), (.getfield 58, 14, 0, 5, 1), (.getfield 295, 17, 7, 4, 1), (.bipush 8, 19, 0, 0, 0), (.iload_n 1, 20, 0, 0, 0), (.imul, 21, 0, 0, 0), (.iload_n 2, 22, 0, 0, 0), (.iadd, 23, 0, 0, 0), (.iaload, 24, 0, 0, 0), (.ireturn, 25, 0, 0, 0)]
abbrev kX1_since : List (Nat × List xE) := [(0, bX1_since_0)]
abbrev lX1_since : List (Nat × Nat × Nat × xS) := [(2, 1, 6, xm_this 0 S_X1_needHand), (2, 1, 6, xm_this 0 S_X1_needPuppet)]
theorem oX1_since_0  : xm_okb cI RX1 cX1_since false 8 lX1_since bX1_since_0 0 := xo_0 dX1_since_0 rfl trivial (xo_0 dX1_since_1 rfl trivial (xo_c rfl (cv_X1_needHand dX1_since_2 (Or.inl q1576) (by decide)) (xo_0 dX1_since_5 rfl trivial (xo_0 dX1_since_6 rfl trivial (xo_c rfl (cv_X1_needPuppet dX1_since_7 (Or.inl q1607) (by decide)) (xo_0 dX1_since_10 rfl trivial (xo_1 dX1_since_11 rfl (xm_fg_of (Or.inl q724) (by decide) rfl (by decide) rfl rfl (Or.inl rfl) rfl) (xo_1 dX1_since_14 rfl (xm_fg_of (Or.inr ⟨_, q671⟩) (by decide) rfl (by decide) rfl rfl (Or.inl rfl) rfl) (xo_0 dX1_since_17 rfl (xo_bipush (by decide +kernel)) (xo_0 dX1_since_19 rfl trivial (xo_0 dX1_since_20 rfl trivial (xo_0 dX1_since_21 rfl trivial (xo_0 dX1_since_22 rfl trivial (xo_0 dX1_since_23 rfl trivial (xo_0 dX1_since_24 rfl trivial (xo_n))))))))))))))))
theorem oX1_since  : ∀ q ∈ kX1_since, xm_okb cI RX1 cX1_since false 8 lX1_since q.2 q.1 := by
  intro q hq
  simp only [List.mem_cons, List.not_mem_nil, or_false] at hq
  subst hq
  exact oX1_since_0  
def S_X1_since : xS := cU fun as P Z I Q QX => ∃ a b L, as = [.ref 0, .int a, .int b] ∧ c_good P Z I L ∧ c_P P Z L (cG P I L) Q QX (q_since (cG P I L) a b)
theorem body_X1_since : xm_Body 3 0 2 12 [] lX1_since kX1_since S_X1_since := by
  intro X avs w Q QX hX0 hS
  have hG := xm_go [] hX0
  have hX := xm_go [] hX0
  clear hX0
  obtain ⟨P, Z, I, rfl, a, b, L, rfl, hg, hQ⟩ := hS
  have hok := hg.ok
  obtain ⟨hn, h9, hm, h8⟩ := id hok
  have h5 := c_5 (P := P)
  refine ⟨rfl, ?_⟩
  repeat' (first
    | ((with_reducible refine @And.intro (vp_in _ _) _ ?_ ?_); (· (first | with_reducible assumption | ((with_reducible refine t_vin ?_); decide) | ((with_reducible refine vp_in_nI ?_ ?_) <;> first | omega | decide) | (simp (disch := omega) only [xl_n, xl_m, nI_dec, nI_sb, nI_add, pk_mul]; (with_reducible refine vp_in_nI ?_ ?_) <;> first | omega | decide))); (conv => whnf))
    | (refine And.intro (by first | with_reducible assumption | exact (show cL _ _ = _ from rfl) | decide) ?_; (conv => whnf))
    | ((with_reducible refine @And.intro (_ = _) _ ?_ ?_); (· rfl); (conv => whnf))
    | ((with_reducible refine @And.intro (@LE.le Nat _ _ _) _ ?_ ?_); (· (first | exact Nat.zero_le _ | exact Nat.le_of_ble_eq_true rfl | omega)); (conv => whnf))
    | ((with_reducible refine @And.intro (@LT.lt Nat _ _ _) _ ?_ ?_); (· omega); (conv => whnf))
    | ((with_reducible refine @And.intro (∃ _, _ = _) _ ?_ ?_); (· exact ⟨_, rfl⟩); (conv => whnf))
    | ((with_reducible refine @And.intro (_ ∨ _) _ ?_ ?_); (· (first | exact Or.inl rfl | exact Or.inr rfl | exact t_b01 _ | assumption)); (conv => whnf))
    | ((with_reducible refine @And.intro (¬ (_ = _)) _ ?_ ?_); (· first | assumption | (with_reducible assumption)); (conv => whnf))
    | (refine hX _ _ _ _ _ _ ?_; (conv => whnf); fail_if_success show False)
    | (rw [c_si]; (conv => whnf))
    | (refine ⟨_, rfl, ?_⟩; (conv => whnf))
    | (refine ⟨_, _, rfl, ?_⟩; (conv => whnf))
    | (refine ⟨_, _, _, rfl, ?_⟩; (conv => whnf))
    | (refine ⟨_, _, _, _, rfl, ?_⟩; (conv => whnf))
    | (refine ⟨a,rfl,hok,?_⟩; (conv => whnf))
    | (rw [c_tl h5]; (conv => whnf))
    | (rw [c_t7 h5]; (conv => whnf))
    | (rw [c_tf h5 (by decide)]; (conv => whnf))
    | (rw [c_t0 h5]; (conv => whnf))
    | (rw [c_t1 h5]; (conv => whnf))
    | (rw [c_t2 h5]; (conv => whnf))
    | (rw [c_t3 h5]; (conv => whnf))
    | (rw [c_t4 h5]; (conv => whnf))
    | (rw [c_t5 h5]; (conv => whnf))
    | (refine And.intro ⟨_, c_tl h5⟩ ?_; (conv => whnf))
    | fail)
  refine ⟨fun e => ?_, fun e x hx => ?_⟩
  · obtain ⟨h, hh, rfl⟩ := t_in_of (by omega) e
    have f : g_isH (cG P I L) (nI h) = true := e
    (conv => whnf)
    repeat' (first
      | ((with_reducible refine @And.intro (vp_in _ _) _ ?_ ?_); (· (first | with_reducible assumption | ((with_reducible refine t_vin ?_); decide) | ((with_reducible refine vp_in_nI ?_ ?_) <;> first | omega | decide) | (simp (disch := omega) only [xl_n, xl_m, nI_dec, nI_sb, nI_add, pk_mul]; (with_reducible refine vp_in_nI ?_ ?_) <;> first | omega | decide))); (conv => whnf))
      | (refine And.intro (by first | with_reducible assumption | exact (show cL _ _ = _ from rfl) | decide) ?_; (conv => whnf))
      | ((with_reducible refine @And.intro (_ = _) _ ?_ ?_); (· rfl); (conv => whnf))
      | ((with_reducible refine @And.intro (@LE.le Nat _ _ _) _ ?_ ?_); (· (first | exact Nat.zero_le _ | exact Nat.le_of_ble_eq_true rfl | omega)); (conv => whnf))
      | ((with_reducible refine @And.intro (@LT.lt Nat _ _ _) _ ?_ ?_); (· omega); (conv => whnf))
      | ((with_reducible refine @And.intro (∃ _, _ = _) _ ?_ ?_); (· exact ⟨_, rfl⟩); (conv => whnf))
      | ((with_reducible refine @And.intro (_ ∨ _) _ ?_ ?_); (· (first | exact Or.inl rfl | exact Or.inr rfl | exact t_b01 _ | assumption)); (conv => whnf))
      | ((with_reducible refine @And.intro (¬ (_ = _)) _ ?_ ?_); (· first | assumption | (with_reducible assumption)); (conv => whnf))
      | (refine hX _ _ _ _ _ _ ?_; (conv => whnf); fail_if_success show False)
      | (rw [c_si]; (conv => whnf))
      | (refine ⟨_, rfl, ?_⟩; (conv => whnf))
      | (refine ⟨_, _, rfl, ?_⟩; (conv => whnf))
      | (refine ⟨_, _, _, rfl, ?_⟩; (conv => whnf))
      | (refine ⟨_, _, _, _, rfl, ?_⟩; (conv => whnf))
      | (refine ⟨b,rfl,hok,?_⟩; (conv => whnf))
      | (rw [c_tl h5]; (conv => whnf))
      | (rw [c_t7 h5]; (conv => whnf))
      | (rw [c_tf h5 (by decide)]; (conv => whnf))
      | (rw [c_t0 h5]; (conv => whnf))
      | (rw [c_t1 h5]; (conv => whnf))
      | (rw [c_t2 h5]; (conv => whnf))
      | (rw [c_t3 h5]; (conv => whnf))
      | (rw [c_t4 h5]; (conv => whnf))
      | (rw [c_t5 h5]; (conv => whnf))
      | (refine And.intro ⟨_, c_tl h5⟩ ?_; (conv => whnf))
      | fail)
    refine ⟨fun e2 => ?_, fun e2 x hx => ?_⟩
    · obtain ⟨p, hp, rfl⟩ := t_in_of (by omega) e2
      have f2 : g_isP (cG P I L) (nI p) = true := e2
      (conv => whnf)
      repeat' (first
        | ((with_reducible refine @And.intro (vp_in _ _) _ ?_ ?_); (· (first | with_reducible assumption | ((with_reducible refine t_vin ?_); decide) | ((with_reducible refine vp_in_nI ?_ ?_) <;> first | omega | decide) | (simp (disch := omega) only [xl_n, xl_m, nI_dec, nI_sb, nI_add, pk_mul]; (with_reducible refine vp_in_nI ?_ ?_) <;> first | omega | decide))); (conv => whnf))
        | (refine And.intro (by first | with_reducible assumption | exact (show cL _ _ = _ from rfl) | decide) ?_; (conv => whnf))
        | ((with_reducible refine @And.intro (_ = _) _ ?_ ?_); (· rfl); (conv => whnf))
        | ((with_reducible refine @And.intro (@LE.le Nat _ _ _) _ ?_ ?_); (· (first | exact Nat.zero_le _ | exact Nat.le_of_ble_eq_true rfl | omega)); (conv => whnf))
        | ((with_reducible refine @And.intro (@LT.lt Nat _ _ _) _ ?_ ?_); (· omega); (conv => whnf))
        | ((with_reducible refine @And.intro (∃ _, _ = _) _ ?_ ?_); (· exact ⟨_, rfl⟩); (conv => whnf))
        | ((with_reducible refine @And.intro (_ ∨ _) _ ?_ ?_); (· (first | exact Or.inl rfl | exact Or.inr rfl | exact t_b01 _ | assumption)); (conv => whnf))
        | ((with_reducible refine @And.intro (¬ (_ = _)) _ ?_ ?_); (· first | assumption | (with_reducible assumption)); (conv => whnf))
        | (refine hX _ _ _ _ _ _ ?_; (conv => whnf); fail_if_success show False)
        | (rw [c_si]; simp (disch := omega) only [xl_n, xl_m, nI_dec, nI_sb, xl_0, xl_1, cW_i, Nat.add_zero, Nat.reduceAdd, Nat.reduceMul, t_bn0, t_bn1, Classical.not_not, t_lt, nI_add, nI_1, pk_mul, nI_clamp, c_si, nI_eq, nI_leI, nM_ne, nM_ne, xm_u2_ne, xm_u2_at, reduceIte, Nat.reduceEqDiff]; (conv => whnf))
        | (refine ⟨_, rfl, ?_⟩; (conv => whnf))
        | (refine ⟨_, _, rfl, ?_⟩; (conv => whnf))
        | (refine ⟨_, _, _, rfl, ?_⟩; (conv => whnf))
        | (refine ⟨_, _, _, _, rfl, ?_⟩; (conv => whnf))
        | (rw [c_tl h5]; (conv => whnf))
        | (rw [c_t7 h5]; (conv => whnf))
        | (rw [c_tf h5 (by decide)]; (conv => whnf))
        | (rw [c_t0 h5]; (conv => whnf))
        | (rw [c_t1 h5]; (conv => whnf))
        | (rw [c_t2 h5]; (conv => whnf))
        | (rw [c_t3 h5]; (conv => whnf))
        | (rw [c_t4 h5]; (conv => whnf))
        | (rw [c_t5 h5]; (conv => whnf))
        | (refine And.intro ⟨_, c_tl h5⟩ ?_; (conv => whnf))
        | (refine And.intro (fun c => ?_) (fun c => ?_) <;> (first | (exact absurd c (by decide +kernel)) | (conv => whnf)))
        | fail)
      rw [q_since, f, f2, Bool.and_self, g_ck_t] at hQ
      refine c_ask hQ hg c_sp.rf ?_
      rw [nI_clamp (by omega), nI_clamp (by omega)]
      have e : (Int32.ofInt 8 * nI h + nI p).toNatClampNeg = 8 * h + p := by simp (disch := omega) only [xl_n, pk_mul, nI_add, nI_clamp]
      show I 54 (Int32.ofInt 8 * nI h + nI p).toNatClampNeg = gsi (cA I 5) h p
      rw [e, cA_gsi (by omega) (by omega)]
    · exact c_ref0 hQ hg (by rw [f]; exact e2) hx n1_0
  · exact c_ref0 hQ hg (by rw [show g_isH (cG P I L) a = false from e]; rfl) hx n1_0
theorem ct_X1_since : xm_Ct cI yX1_since (ws_ yX1_since cX1_since 3 (some .int)) 8 2 12 S_X1_since := xm_enter (rt := 0) (init := false) (by decide +kernel) rfl (fun h => by cases h) (Or.inl ⟨rfl, rfl⟩) (oX1_since) body_X1_since
theorem cv_X1_since {own : String} {cc : ByteArray} {fr pc idx : Nat} (hdg : decode cc pc = .ok (.invokevirtual idx, 3)) (hl : xm_ml own idx yX1_since) (hfr : 8 < fr) : xm_CallOK cI own cc fr pc (pc + 3) 3 2 12 (xm_this 0 S_X1_since) := xm_callV 0 cI_good (ct_X1_since) hdg hl q1669 q1670 q116 q1671 rfl rfl (by decide +kernel) hfr (by decide)
abbrev bX1_owes_0 : List xE := [(.aload_n 0, 1, 0, 0, 0), (.iload_n 1, 2, 0, 0, 0), (.invokevirtual 217, 5, 0, 0, 9), (.aload_n 0, 6, 0, 0, 0), (.iload_n 2, 7, 0, 0, 0), (.invokevirtual 217, 10, 0, 0, 9), (.aload_n 0, 11, 0, 0, 0), (.getfield 31, 14, 0, 0, 1), (.getfield 374, 17, 1, 4, 1), (.bipush 9, 19, 0, 0, 0), (.iload_n 1, 20, 0, 0, 0), (.imul, 21, 0, 0, 0), (.iload_n 2, 22, 0, 0, 0), (.iadd, 23, 0, 0, 0), (.iaload, 24, 0, 0, 0), (.ireturn, 25, 0, 0, 0)]
abbrev kX1_owes : List (Nat × List xE) := [(0, bX1_owes_0)]
abbrev lX1_owes : List (Nat × Nat × Nat × xS) := [(2, 1, 6, xm_this 0 S_X1_needHand)]
theorem oX1_owes_0  : xm_okb cI RX1 cX1_owes false 8 lX1_owes bX1_owes_0 0 := xo_0 dX1_owes_0 rfl trivial (xo_0 dX1_owes_1 rfl trivial (xo_c rfl (cv_X1_needHand dX1_owes_2 (Or.inl q1576) (by decide)) (xo_0 dX1_owes_5 rfl trivial (xo_0 dX1_owes_6 rfl trivial (xo_c rfl (cv_X1_needHand dX1_owes_7 (Or.inl q1576) (by decide)) (xo_0 dX1_owes_10 rfl trivial (xo_1 dX1_owes_11 rfl (xm_fg_of (Or.inl q716) (by decide) rfl (by decide) rfl rfl (Or.inl rfl) rfl) (xo_1 dX1_owes_14 rfl (xm_fg_of (Or.inr ⟨_, q531⟩) (by decide) rfl (by decide) rfl rfl (Or.inl rfl) rfl) (xo_0 dX1_owes_17 rfl (xo_bipush (by decide +kernel)) (xo_0 dX1_owes_19 rfl trivial (xo_0 dX1_owes_20 rfl trivial (xo_0 dX1_owes_21 rfl trivial (xo_0 dX1_owes_22 rfl trivial (xo_0 dX1_owes_23 rfl trivial (xo_0 dX1_owes_24 rfl trivial (xo_n))))))))))))))))
theorem oX1_owes  : ∀ q ∈ kX1_owes, xm_okb cI RX1 cX1_owes false 8 lX1_owes q.2 q.1 := by
  intro q hq
  simp only [List.mem_cons, List.not_mem_nil, or_false] at hq
  subst hq
  exact oX1_owes_0  
def S_X1_owes : xS := cU fun as P Z I Q QX => ∃ a b L, as = [.ref 0, .int a, .int b] ∧ c_good P Z I L ∧ c_P P Z L (cG P I L) Q QX (q_owes (cG P I L) a b)
theorem body_X1_owes : xm_Body 3 0 2 12 [] lX1_owes kX1_owes S_X1_owes := by
  intro X avs w Q QX hX0 hS
  have hG := xm_go [] hX0
  have hX := xm_go [] hX0
  clear hX0
  obtain ⟨P, Z, I, rfl, a, b, L, rfl, hg, hQ⟩ := hS
  have hok := hg.ok
  obtain ⟨hn, h9, hm, h8⟩ := id hok
  refine ⟨rfl, ?_⟩
  repeat' (first
    | ((with_reducible refine @And.intro (vp_in _ _) _ ?_ ?_); (· (first | with_reducible assumption | ((with_reducible refine t_vin ?_); decide) | ((with_reducible refine vp_in_nI ?_ ?_) <;> first | omega | decide) | (simp (disch := omega) only [xl_n, xl_m, nI_dec, nI_sb, nI_add, pk_mul]; (with_reducible refine vp_in_nI ?_ ?_) <;> first | omega | decide))); (conv => whnf))
    | (refine And.intro (by first | with_reducible assumption | exact (show cL _ _ = _ from rfl) | decide) ?_; (conv => whnf))
    | ((with_reducible refine @And.intro (_ = _) _ ?_ ?_); (· rfl); (conv => whnf))
    | ((with_reducible refine @And.intro (@LE.le Nat _ _ _) _ ?_ ?_); (· (first | exact Nat.zero_le _ | exact Nat.le_of_ble_eq_true rfl | omega)); (conv => whnf))
    | ((with_reducible refine @And.intro (@LT.lt Nat _ _ _) _ ?_ ?_); (· omega); (conv => whnf))
    | ((with_reducible refine @And.intro (∃ _, _ = _) _ ?_ ?_); (· exact ⟨_, rfl⟩); (conv => whnf))
    | ((with_reducible refine @And.intro (_ ∨ _) _ ?_ ?_); (· (first | exact Or.inl rfl | exact Or.inr rfl | exact t_b01 _ | assumption)); (conv => whnf))
    | ((with_reducible refine @And.intro (¬ (_ = _)) _ ?_ ?_); (· first | assumption | (with_reducible assumption)); (conv => whnf))
    | (refine hX _ _ _ _ _ _ ?_; (conv => whnf); fail_if_success show False)
    | (rw [c_si]; (conv => whnf))
    | (refine ⟨_, rfl, ?_⟩; (conv => whnf))
    | (refine ⟨_, _, rfl, ?_⟩; (conv => whnf))
    | (refine ⟨_, _, _, rfl, ?_⟩; (conv => whnf))
    | (refine ⟨_, _, _, _, rfl, ?_⟩; (conv => whnf))
    | (refine ⟨a,rfl,hok,?_⟩; (conv => whnf))
    | fail)
  refine ⟨fun e => ?_, fun e x hx => ?_⟩
  · obtain ⟨h, hh, rfl⟩ := t_in_of (by omega) e
    have f : g_isH (cG P I L) (nI h) = true := e
    (conv => whnf)
    repeat' (first
      | ((with_reducible refine @And.intro (vp_in _ _) _ ?_ ?_); (· (first | with_reducible assumption | ((with_reducible refine t_vin ?_); decide) | ((with_reducible refine vp_in_nI ?_ ?_) <;> first | omega | decide) | (simp (disch := omega) only [xl_n, xl_m, nI_dec, nI_sb, nI_add, pk_mul]; (with_reducible refine vp_in_nI ?_ ?_) <;> first | omega | decide))); (conv => whnf))
      | (refine And.intro (by first | with_reducible assumption | exact (show cL _ _ = _ from rfl) | decide) ?_; (conv => whnf))
      | ((with_reducible refine @And.intro (_ = _) _ ?_ ?_); (· rfl); (conv => whnf))
      | ((with_reducible refine @And.intro (@LE.le Nat _ _ _) _ ?_ ?_); (· (first | exact Nat.zero_le _ | exact Nat.le_of_ble_eq_true rfl | omega)); (conv => whnf))
      | ((with_reducible refine @And.intro (@LT.lt Nat _ _ _) _ ?_ ?_); (· omega); (conv => whnf))
      | ((with_reducible refine @And.intro (∃ _, _ = _) _ ?_ ?_); (· exact ⟨_, rfl⟩); (conv => whnf))
      | ((with_reducible refine @And.intro (_ ∨ _) _ ?_ ?_); (· (first | exact Or.inl rfl | exact Or.inr rfl | exact t_b01 _ | assumption)); (conv => whnf))
      | ((with_reducible refine @And.intro (¬ (_ = _)) _ ?_ ?_); (· first | assumption | (with_reducible assumption)); (conv => whnf))
      | (refine hX _ _ _ _ _ _ ?_; (conv => whnf); fail_if_success show False)
      | (rw [c_si]; (conv => whnf))
      | (refine ⟨_, rfl, ?_⟩; (conv => whnf))
      | (refine ⟨_, _, rfl, ?_⟩; (conv => whnf))
      | (refine ⟨_, _, _, rfl, ?_⟩; (conv => whnf))
      | (refine ⟨_, _, _, _, rfl, ?_⟩; (conv => whnf))
      | (refine ⟨b,rfl,hok,?_⟩; (conv => whnf))
      | fail)
    refine ⟨fun e2 => ?_, fun e2 x hx => ?_⟩
    · obtain ⟨p, hp, rfl⟩ := t_in_of (by omega) e2
      have f2 : g_isH (cG P I L) (nI p) = true := e2
      (conv => whnf)
      repeat' (first
        | ((with_reducible refine @And.intro (vp_in _ _) _ ?_ ?_); (· (first | with_reducible assumption | ((with_reducible refine t_vin ?_); decide) | ((with_reducible refine vp_in_nI ?_ ?_) <;> first | omega | decide) | (simp (disch := omega) only [xl_n, xl_m, nI_dec, nI_sb, nI_add, pk_mul]; (with_reducible refine vp_in_nI ?_ ?_) <;> first | omega | decide))); (conv => whnf))
        | (refine And.intro (by first | with_reducible assumption | exact (show cL _ _ = _ from rfl) | decide) ?_; (conv => whnf))
        | ((with_reducible refine @And.intro (_ = _) _ ?_ ?_); (· rfl); (conv => whnf))
        | ((with_reducible refine @And.intro (@LE.le Nat _ _ _) _ ?_ ?_); (· (first | exact Nat.zero_le _ | exact Nat.le_of_ble_eq_true rfl | omega)); (conv => whnf))
        | ((with_reducible refine @And.intro (@LT.lt Nat _ _ _) _ ?_ ?_); (· omega); (conv => whnf))
        | ((with_reducible refine @And.intro (∃ _, _ = _) _ ?_ ?_); (· exact ⟨_, rfl⟩); (conv => whnf))
        | ((with_reducible refine @And.intro (_ ∨ _) _ ?_ ?_); (· (first | exact Or.inl rfl | exact Or.inr rfl | exact t_b01 _ | assumption)); (conv => whnf))
        | ((with_reducible refine @And.intro (¬ (_ = _)) _ ?_ ?_); (· first | assumption | (with_reducible assumption)); (conv => whnf))
        | (refine hX _ _ _ _ _ _ ?_; (conv => whnf); fail_if_success show False)
        | (rw [c_si]; simp (disch := omega) only [xl_n, xl_m, nI_dec, nI_sb, xl_0, xl_1, cW_i, Nat.add_zero, Nat.reduceAdd, Nat.reduceMul, t_bn0, t_bn1, Classical.not_not, t_lt, nI_add, nI_1, pk_mul, nI_clamp, c_si, nI_eq, nI_leI, nM_ne, nM_ne, xm_u2_ne, xm_u2_at, reduceIte, Nat.reduceEqDiff]; (conv => whnf))
        | (refine ⟨_, rfl, ?_⟩; (conv => whnf))
        | (refine ⟨_, _, rfl, ?_⟩; (conv => whnf))
        | (refine ⟨_, _, _, rfl, ?_⟩; (conv => whnf))
        | (refine ⟨_, _, _, _, rfl, ?_⟩; (conv => whnf))
        | (refine And.intro (fun c => ?_) (fun c => ?_) <;> (first | (exact absurd c (by decide +kernel)) | (conv => whnf)))
        | fail)
      rw [q_owes, f, f2, Bool.and_self, g_ck_t] at hQ
      refine c_ask hQ hg c_sp.rf ?_
      rw [nI_clamp (by omega), nI_clamp (by omega)]
      have e : (Int32.ofInt 9 * nI h + nI p).toNatClampNeg = 9 * h + p := by simp (disch := omega) only [xl_n, pk_mul, nI_add, nI_clamp]
      show I 34 (Int32.ofInt 9 * nI h + nI p).toNatClampNeg = if h < 9 ∧ p < 9 then I 34 (9 * h + p) else nI 0
      rw [e, if_pos ⟨by omega, by omega⟩]
    · exact c_ref0 hQ hg (by rw [f]; exact e2) hx n1_0
  · exact c_ref0 hQ hg (by rw [show g_isH (cG P I L) a = false from e]; rfl) hx n1_0
theorem ct_X1_owes : xm_Ct cI yX1_owes (ws_ yX1_owes cX1_owes 3 (some .int)) 8 2 12 S_X1_owes := xm_enter (rt := 0) (init := false) (by decide +kernel) rfl (fun h => by cases h) (Or.inl ⟨rfl, rfl⟩) (oX1_owes) body_X1_owes
theorem cv_X1_owes {own : String} {cc : ByteArray} {fr pc idx : Nat} (hdg : decode cc pc = .ok (.invokevirtual idx, 3)) (hl : xm_ml own idx yX1_owes) (hfr : 8 < fr) : xm_CallOK cI own cc fr pc (pc + 3) 3 2 12 (xm_this 0 S_X1_owes) := xm_callV 0 cI_good (ct_X1_owes) hdg hl q1813 q1814 q116 q1815 rfl rfl (by decide +kernel) hfr (by decide)
abbrev bX1_score_0 : List xE := [(.aload_n 0, 1, 0, 0, 0), (.iload_n 1, 2, 0, 0, 0), (.invokevirtual 238, 5, 0, 0, 9), (.aload_n 0, 6, 0, 0, 0), (.iload_n 2, 7, 0, 0, 0), (.invokevirtual 217, 10, 0, 1, 9), (.aload_n 0, 11, 0, 0, 0), (.getfield 58, 14, 0, 5, 1), (.iload_n 1, 15, 0, 0, 0), (.iload_n 2, 16, 0, 0, 0), (.invokevirtual 278, 19, 0, 2, 9), (.ireturn, 20, 0, 0, 0)]
abbrev kX1_score : List (Nat × List xE) := [(0, bX1_score_0)]
abbrev lX1_score : List (Nat × Nat × Nat × xS) := [(2, 1, 6, xm_this 0 S_X1_needPuppet), (2, 1, 6, xm_this 0 S_X1_needHand), (3, 0, 0, xm_this 7 S_X10_score)]
theorem oX1_score_0  : xm_okb cI RX1 cX1_score false 161 lX1_score bX1_score_0 0 := xo_0 dX1_score_0 rfl trivial (xo_0 dX1_score_1 rfl trivial (xo_c rfl (cv_X1_needPuppet dX1_score_2 (Or.inl q1607) (by decide)) (xo_0 dX1_score_5 rfl trivial (xo_0 dX1_score_6 rfl trivial (xo_c rfl (cv_X1_needHand dX1_score_7 (Or.inl q1576) (by decide)) (xo_0 dX1_score_10 rfl trivial (xo_1 dX1_score_11 rfl (xm_fg_of (Or.inl q724) (by decide) rfl (by decide) rfl rfl (Or.inl rfl) rfl) (xo_0 dX1_score_14 rfl trivial (xo_0 dX1_score_15 rfl trivial (xo_c rfl (cv_X10_score dX1_score_16 (Or.inl q1633) (by decide)) (xo_0 dX1_score_19 rfl trivial (xo_n))))))))))))
theorem oX1_score  : ∀ q ∈ kX1_score, xm_okb cI RX1 cX1_score false 161 lX1_score q.2 q.1 := by
  intro q hq
  simp only [List.mem_cons, List.not_mem_nil, or_false] at hq
  subst hq
  exact oX1_score_0  
def S_X1_score : xS := cU fun as P Z I Q QX => ∃ a b L, as = [.ref 0, .int a, .int b] ∧ c_good P Z I L ∧ c_P P Z L (cG P I L) Q QX (q_score (cG P I L) a b)
theorem body_X1_score : xm_Body 3 0 2 12 [] lX1_score kX1_score S_X1_score := by
  intro X avs w Q QX hX0 hS
  have hG := xm_go [] hX0
  have hX := xm_go [] hX0
  clear hX0
  obtain ⟨P, Z, I, rfl, a, b, L, rfl, hg, hQ⟩ := hS
  have hok := hg.ok
  obtain ⟨hn, h9, hm, h8⟩ := id hok
  have h5 := c_5 (P := P)
  have ht := hg.now
  refine ⟨rfl, ?_⟩
  repeat' (first
    | ((with_reducible refine @And.intro (vp_in _ _) _ ?_ ?_); (· (first | with_reducible assumption | ((with_reducible refine t_vin ?_); decide) | ((with_reducible refine vp_in_nI ?_ ?_) <;> first | omega | decide) | (simp (disch := omega) only [xl_n, xl_m, nI_dec, nI_sb, nI_add, pk_mul]; (with_reducible refine vp_in_nI ?_ ?_) <;> first | omega | decide))); (conv => whnf))
    | (refine And.intro (by first | with_reducible assumption | exact (show cL _ _ = _ from rfl) | decide) ?_; (conv => whnf))
    | ((with_reducible refine @And.intro (_ = _) _ ?_ ?_); (· rfl); (conv => whnf))
    | ((with_reducible refine @And.intro (@LE.le Nat _ _ _) _ ?_ ?_); (· (first | exact Nat.zero_le _ | exact Nat.le_of_ble_eq_true rfl | omega)); (conv => whnf))
    | ((with_reducible refine @And.intro (@LT.lt Nat _ _ _) _ ?_ ?_); (· omega); (conv => whnf))
    | ((with_reducible refine @And.intro (∃ _, _ = _) _ ?_ ?_); (· exact ⟨_, rfl⟩); (conv => whnf))
    | ((with_reducible refine @And.intro (_ ∨ _) _ ?_ ?_); (· (first | exact Or.inl rfl | exact Or.inr rfl | exact t_b01 _ | assumption)); (conv => whnf))
    | ((with_reducible refine @And.intro (¬ (_ = _)) _ ?_ ?_); (· first | assumption | (with_reducible assumption)); (conv => whnf))
    | (refine hX _ _ _ _ _ _ ?_; (conv => whnf); fail_if_success show False)
    | (rw [c_si]; (conv => whnf))
    | (refine ⟨_, rfl, ?_⟩; (conv => whnf))
    | (refine ⟨_, _, rfl, ?_⟩; (conv => whnf))
    | (refine ⟨_, _, _, rfl, ?_⟩; (conv => whnf))
    | (refine ⟨_, _, _, _, rfl, ?_⟩; (conv => whnf))
    | (refine ⟨a,rfl,hok,?_⟩; (conv => whnf))
    | (rw [c_tl h5]; (conv => whnf))
    | (rw [c_t7 h5]; (conv => whnf))
    | (rw [c_tf h5 (by decide)]; (conv => whnf))
    | (rw [c_t0 h5]; (conv => whnf))
    | (rw [c_t1 h5]; (conv => whnf))
    | (rw [c_t2 h5]; (conv => whnf))
    | (rw [c_t3 h5]; (conv => whnf))
    | (rw [c_t4 h5]; (conv => whnf))
    | (rw [c_t5 h5]; (conv => whnf))
    | (refine And.intro ⟨_, c_tl h5⟩ ?_; (conv => whnf))
    | fail)
  refine ⟨fun e => ?_, fun e x hx => ?_⟩
  · obtain ⟨p, hp, rfl⟩ := t_in_of (by omega) e
    have f : g_isP (cG P I L) (nI p) = true := e
    (conv => whnf)
    repeat' (first
      | ((with_reducible refine @And.intro (vp_in _ _) _ ?_ ?_); (· (first | with_reducible assumption | ((with_reducible refine t_vin ?_); decide) | ((with_reducible refine vp_in_nI ?_ ?_) <;> first | omega | decide) | (simp (disch := omega) only [xl_n, xl_m, nI_dec, nI_sb, nI_add, pk_mul]; (with_reducible refine vp_in_nI ?_ ?_) <;> first | omega | decide))); (conv => whnf))
      | (refine And.intro (by first | with_reducible assumption | exact (show cL _ _ = _ from rfl) | decide) ?_; (conv => whnf))
      | ((with_reducible refine @And.intro (_ = _) _ ?_ ?_); (· rfl); (conv => whnf))
      | ((with_reducible refine @And.intro (@LE.le Nat _ _ _) _ ?_ ?_); (· (first | exact Nat.zero_le _ | exact Nat.le_of_ble_eq_true rfl | omega)); (conv => whnf))
      | ((with_reducible refine @And.intro (@LT.lt Nat _ _ _) _ ?_ ?_); (· omega); (conv => whnf))
      | ((with_reducible refine @And.intro (∃ _, _ = _) _ ?_ ?_); (· exact ⟨_, rfl⟩); (conv => whnf))
      | ((with_reducible refine @And.intro (_ ∨ _) _ ?_ ?_); (· (first | exact Or.inl rfl | exact Or.inr rfl | exact t_b01 _ | assumption)); (conv => whnf))
      | ((with_reducible refine @And.intro (¬ (_ = _)) _ ?_ ?_); (· first | assumption | (with_reducible assumption)); (conv => whnf))
      | (refine hX _ _ _ _ _ _ ?_; (conv => whnf); fail_if_success show False)
      | (rw [c_si]; (conv => whnf))
      | (refine ⟨_, rfl, ?_⟩; (conv => whnf))
      | (refine ⟨_, _, rfl, ?_⟩; (conv => whnf))
      | (refine ⟨_, _, _, rfl, ?_⟩; (conv => whnf))
      | (refine ⟨_, _, _, _, rfl, ?_⟩; (conv => whnf))
      | (refine ⟨b,rfl,hok,?_⟩; (conv => whnf))
      | (rw [c_tl h5]; (conv => whnf))
      | (rw [c_t7 h5]; (conv => whnf))
      | (rw [c_tf h5 (by decide)]; (conv => whnf))
      | (rw [c_t0 h5]; (conv => whnf))
      | (rw [c_t1 h5]; (conv => whnf))
      | (rw [c_t2 h5]; (conv => whnf))
      | (rw [c_t3 h5]; (conv => whnf))
      | (rw [c_t4 h5]; (conv => whnf))
      | (rw [c_t5 h5]; (conv => whnf))
      | (refine And.intro ⟨_, c_tl h5⟩ ?_; (conv => whnf))
      | fail)
    refine ⟨fun e2 => ?_, fun e2 x hx => ?_⟩
    · obtain ⟨h, hh, rfl⟩ := t_in_of (by omega) e2
      have f2 : g_isH (cG P I L) (nI h) = true := e2
      rw [q_score, f, f2, Bool.and_self, g_ck_t] at hQ
      (conv => whnf)
      repeat' (first
        | ((with_reducible refine @And.intro (vp_in _ _) _ ?_ ?_); (· (first | with_reducible assumption | ((with_reducible refine t_vin ?_); decide) | ((with_reducible refine vp_in_nI ?_ ?_) <;> first | omega | decide) | (simp (disch := omega) only [xl_n, xl_m, nI_dec, nI_sb, nI_add, pk_mul]; (with_reducible refine vp_in_nI ?_ ?_) <;> first | omega | decide))); (conv => whnf))
        | (refine And.intro (by first | with_reducible assumption | exact (show cL _ _ = _ from rfl) | decide) ?_; (conv => whnf))
        | ((with_reducible refine @And.intro (_ = _) _ ?_ ?_); (· rfl); (conv => whnf))
        | ((with_reducible refine @And.intro (@LE.le Nat _ _ _) _ ?_ ?_); (· (first | exact Nat.zero_le _ | exact Nat.le_of_ble_eq_true rfl | omega)); (conv => whnf))
        | ((with_reducible refine @And.intro (@LT.lt Nat _ _ _) _ ?_ ?_); (· omega); (conv => whnf))
        | ((with_reducible refine @And.intro (∃ _, _ = _) _ ?_ ?_); (· exact ⟨_, rfl⟩); (conv => whnf))
        | ((with_reducible refine @And.intro (_ ∨ _) _ ?_ ?_); (· (first | exact Or.inl rfl | exact Or.inr rfl | exact t_b01 _ | assumption)); (conv => whnf))
        | ((with_reducible refine @And.intro (¬ (_ = _)) _ ?_ ?_); (· first | assumption | (with_reducible assumption)); (conv => whnf))
        | (refine hX _ _ _ _ _ _ ?_; (conv => whnf); fail_if_success show False)
        | (rw [c_si]; (conv => whnf))
        | (refine ⟨_, rfl, ?_⟩; (conv => whnf))
        | (refine ⟨_, _, rfl, ?_⟩; (conv => whnf))
        | (refine ⟨_, _, _, rfl, ?_⟩; (conv => whnf))
        | (refine ⟨_, _, _, _, rfl, ?_⟩; (conv => whnf))
        | (refine ⟨5,p,h,L,rfl,h5,hok,hp,hh,ht.2.2.2.2,ht.2.2.2.1,?_⟩; (conv => whnf))
        | (rw [c_tl h5]; (conv => whnf))
        | (rw [c_t7 h5]; (conv => whnf))
        | (rw [c_tf h5 (by decide)]; (conv => whnf))
        | (rw [c_t0 h5]; (conv => whnf))
        | (rw [c_t1 h5]; (conv => whnf))
        | (rw [c_t2 h5]; (conv => whnf))
        | (rw [c_t3 h5]; (conv => whnf))
        | (rw [c_t4 h5]; (conv => whnf))
        | (rw [c_t5 h5]; (conv => whnf))
        | (refine And.intro ⟨_, c_tl h5⟩ ?_; (conv => whnf))
        | (refine And.intro (fun c => ?_) (fun c => ?_) <;> (first | (exact absurd c (by decide +kernel)) | (conv => whnf)))
        | fail)
      intro J hJ
      (conv => whnf)
      repeat' (first
        | ((with_reducible refine @And.intro (vp_in _ _) _ ?_ ?_); (· (first | with_reducible assumption | ((with_reducible refine t_vin ?_); decide) | ((with_reducible refine vp_in_nI ?_ ?_) <;> first | omega | decide) | (simp (disch := omega) only [xl_n, xl_m, nI_dec, nI_sb, nI_add, pk_mul]; (with_reducible refine vp_in_nI ?_ ?_) <;> first | omega | decide))); (conv => whnf))
        | (refine And.intro (by first | with_reducible assumption | exact (show cL _ _ = _ from rfl) | decide) ?_; (conv => whnf))
        | ((with_reducible refine @And.intro (_ = _) _ ?_ ?_); (· rfl); (conv => whnf))
        | ((with_reducible refine @And.intro (@LE.le Nat _ _ _) _ ?_ ?_); (· (first | exact Nat.zero_le _ | exact Nat.le_of_ble_eq_true rfl | omega)); (conv => whnf))
        | ((with_reducible refine @And.intro (@LT.lt Nat _ _ _) _ ?_ ?_); (· omega); (conv => whnf))
        | ((with_reducible refine @And.intro (∃ _, _ = _) _ ?_ ?_); (· exact ⟨_, rfl⟩); (conv => whnf))
        | ((with_reducible refine @And.intro (_ ∨ _) _ ?_ ?_); (· (first | exact Or.inl rfl | exact Or.inr rfl | exact t_b01 _ | assumption)); (conv => whnf))
        | ((with_reducible refine @And.intro (¬ (_ = _)) _ ?_ ?_); (· first | assumption | (with_reducible assumption)); (conv => whnf))
        | (refine hX _ _ _ _ _ _ ?_; (conv => whnf); fail_if_success show False)
        | (rw [c_si]; (conv => whnf))
        | (refine ⟨_, rfl, ?_⟩; (conv => whnf))
        | (refine ⟨_, _, rfl, ?_⟩; (conv => whnf))
        | (refine ⟨_, _, _, rfl, ?_⟩; (conv => whnf))
        | (refine ⟨_, _, _, _, rfl, ?_⟩; (conv => whnf))
        | (refine And.intro (fun c => ?_) (fun c => ?_) <;> (first | (exact absurd c (by decide +kernel)) | (conv => whnf)))
        | fail)
      refine c_ask hQ hg hJ.sp ?_
      rw [nI_clamp (by omega), nI_clamp (by omega)]
      rfl
    · exact c_ref0 hQ hg (by rw [f]; exact e2) hx n1_0
  · exact c_ref0 hQ hg (by rw [show g_isP (cG P I L) a = false from e]; rfl) hx n1_0
theorem ct_X1_score : xm_Ct cI yX1_score (ws_ yX1_score cX1_score 3 (some .int)) 161 2 12 S_X1_score := xm_enter (rt := 0) (init := false) (by decide +kernel) rfl (fun h => by cases h) (Or.inl ⟨rfl, rfl⟩) (oX1_score) body_X1_score
theorem cv_X1_score {own : String} {cc : ByteArray} {fr pc idx : Nat} (hdg : decode cc pc = .ok (.invokevirtual idx, 3)) (hl : xm_ml own idx yX1_score) (hfr : 161 < fr) : xm_CallOK cI own cc fr pc (pc + 3) 3 2 12 (xm_this 0 S_X1_score) := xm_callV 0 cI_good (ct_X1_score) hdg hl q1630 q1631 q116 q1632 rfl rfl (by decide +kernel) hfr (by decide)
abbrev bX1_chooses_0 : List xE := [(.aload_n 0, 1, 0, 0, 0), (.iload_n 1, 2, 0, 0, 0), (.invokevirtual 238, 5, 0, 0, 9), (.aload_n 0, 6, 0, 0, 0), (.getfield 58, 9, 0, 5, 1), (.iload_n 1, 10, 0, 0, 0), (.invokevirtual 281, 13, 0, 1, 9), (.ireturn, 14, 0, 0, 0)]
abbrev kX1_chooses : List (Nat × List xE) := [(0, bX1_chooses_0)]
abbrev lX1_chooses : List (Nat × Nat × Nat × xS) := [(2, 1, 6, xm_this 0 S_X1_needPuppet), (2, 0, 0, xm_this 7 S_X10_chooses)]
theorem oX1_chooses_0  : xm_okb cI RX1 cX1_chooses false 162 lX1_chooses bX1_chooses_0 0 := xo_0 dX1_chooses_0 rfl trivial (xo_0 dX1_chooses_1 rfl trivial (xo_c rfl (cv_X1_needPuppet dX1_chooses_2 (Or.inl q1607) (by decide)) (xo_0 dX1_chooses_5 rfl trivial (xo_1 dX1_chooses_6 rfl (xm_fg_of (Or.inl q724) (by decide) rfl (by decide) rfl rfl (Or.inl rfl) rfl) (xo_0 dX1_chooses_9 rfl trivial (xo_c rfl (cv_X10_chooses dX1_chooses_10 (Or.inl q1641) (by decide)) (xo_0 dX1_chooses_13 rfl trivial (xo_n))))))))
theorem oX1_chooses  : ∀ q ∈ kX1_chooses, xm_okb cI RX1 cX1_chooses false 162 lX1_chooses q.2 q.1 := by
  intro q hq
  simp only [List.mem_cons, List.not_mem_nil, or_false] at hq
  subst hq
  exact oX1_chooses_0  
def S_X1_chooses : xS := cU fun as P Z I Q QX => ∃ a L, as = [.ref 0, .int a] ∧ c_good P Z I L ∧ c_P P Z L (cG P I L) Q QX (q_chooses (cG P I L) a)
theorem body_X1_chooses : xm_Body 2 0 1 6 [] lX1_chooses kX1_chooses S_X1_chooses := by
  intro X avs w Q QX hX0 hS
  have hG := xm_go [] hX0
  have hX := xm_go [] hX0
  clear hX0
  obtain ⟨P, Z, I, rfl, a, L, rfl, hg, hQ⟩ := hS
  have hok := hg.ok
  obtain ⟨hn, h9, hm, h8⟩ := id hok
  have h5 := c_5 (P := P)
  have ht := hg.now
  refine ⟨rfl, ?_⟩
  repeat' (first
    | ((with_reducible refine @And.intro (vp_in _ _) _ ?_ ?_); (· (first | with_reducible assumption | ((with_reducible refine t_vin ?_); decide) | ((with_reducible refine vp_in_nI ?_ ?_) <;> first | omega | decide) | (simp (disch := omega) only [xl_n, xl_m, nI_dec, nI_sb, nI_add, pk_mul]; (with_reducible refine vp_in_nI ?_ ?_) <;> first | omega | decide))); (conv => whnf))
    | (refine And.intro (by first | with_reducible assumption | exact (show cL _ _ = _ from rfl) | decide) ?_; (conv => whnf))
    | ((with_reducible refine @And.intro (_ = _) _ ?_ ?_); (· rfl); (conv => whnf))
    | ((with_reducible refine @And.intro (@LE.le Nat _ _ _) _ ?_ ?_); (· (first | exact Nat.zero_le _ | exact Nat.le_of_ble_eq_true rfl | omega)); (conv => whnf))
    | ((with_reducible refine @And.intro (@LT.lt Nat _ _ _) _ ?_ ?_); (· omega); (conv => whnf))
    | ((with_reducible refine @And.intro (∃ _, _ = _) _ ?_ ?_); (· exact ⟨_, rfl⟩); (conv => whnf))
    | ((with_reducible refine @And.intro (_ ∨ _) _ ?_ ?_); (· (first | exact Or.inl rfl | exact Or.inr rfl | exact t_b01 _ | assumption)); (conv => whnf))
    | ((with_reducible refine @And.intro (¬ (_ = _)) _ ?_ ?_); (· first | assumption | (with_reducible assumption)); (conv => whnf))
    | (refine hX _ _ _ _ _ _ ?_; (conv => whnf); fail_if_success show False)
    | (rw [c_si]; (conv => whnf))
    | (refine ⟨_, rfl, ?_⟩; (conv => whnf))
    | (refine ⟨_, _, rfl, ?_⟩; (conv => whnf))
    | (refine ⟨_, _, _, rfl, ?_⟩; (conv => whnf))
    | (refine ⟨_, _, _, _, rfl, ?_⟩; (conv => whnf))
    | (refine ⟨a,rfl,hok,?_⟩; (conv => whnf))
    | (rw [c_tl h5]; (conv => whnf))
    | (rw [c_t7 h5]; (conv => whnf))
    | (rw [c_tf h5 (by decide)]; (conv => whnf))
    | (rw [c_t0 h5]; (conv => whnf))
    | (rw [c_t1 h5]; (conv => whnf))
    | (rw [c_t2 h5]; (conv => whnf))
    | (rw [c_t3 h5]; (conv => whnf))
    | (rw [c_t4 h5]; (conv => whnf))
    | (rw [c_t5 h5]; (conv => whnf))
    | (refine And.intro ⟨_, c_tl h5⟩ ?_; (conv => whnf))
    | fail)
  refine ⟨fun e => ?_, fun e x hx => ?_⟩
  · obtain ⟨p, hp, rfl⟩ := t_in_of (by omega) e
    have f : g_isP (cG P I L) (nI p) = true := e
    rw [q_chooses, f, g_ck_t] at hQ
    (conv => whnf)
    repeat' (first
      | ((with_reducible refine @And.intro (vp_in _ _) _ ?_ ?_); (· (first | with_reducible assumption | ((with_reducible refine t_vin ?_); decide) | ((with_reducible refine vp_in_nI ?_ ?_) <;> first | omega | decide) | (simp (disch := omega) only [xl_n, xl_m, nI_dec, nI_sb, nI_add, pk_mul]; (with_reducible refine vp_in_nI ?_ ?_) <;> first | omega | decide))); (conv => whnf))
      | (refine And.intro (by first | with_reducible assumption | exact (show cL _ _ = _ from rfl) | decide) ?_; (conv => whnf))
      | ((with_reducible refine @And.intro (_ = _) _ ?_ ?_); (· rfl); (conv => whnf))
      | ((with_reducible refine @And.intro (@LE.le Nat _ _ _) _ ?_ ?_); (· (first | exact Nat.zero_le _ | exact Nat.le_of_ble_eq_true rfl | omega)); (conv => whnf))
      | ((with_reducible refine @And.intro (@LT.lt Nat _ _ _) _ ?_ ?_); (· omega); (conv => whnf))
      | ((with_reducible refine @And.intro (∃ _, _ = _) _ ?_ ?_); (· exact ⟨_, rfl⟩); (conv => whnf))
      | ((with_reducible refine @And.intro (_ ∨ _) _ ?_ ?_); (· (first | exact Or.inl rfl | exact Or.inr rfl | exact t_b01 _ | assumption)); (conv => whnf))
      | ((with_reducible refine @And.intro (¬ (_ = _)) _ ?_ ?_); (· first | assumption | (with_reducible assumption)); (conv => whnf))
      | (refine hX _ _ _ _ _ _ ?_; (conv => whnf); fail_if_success show False)
      | (rw [c_si]; (conv => whnf))
      | (refine ⟨_, rfl, ?_⟩; (conv => whnf))
      | (refine ⟨_, _, rfl, ?_⟩; (conv => whnf))
      | (refine ⟨_, _, _, rfl, ?_⟩; (conv => whnf))
      | (refine ⟨_, _, _, _, rfl, ?_⟩; (conv => whnf))
      | (refine ⟨5,p,L,rfl,h5,hok,hp,ht.2.2.1,ht.2.2.2.2,ht.2.2.2.1,?_⟩; (conv => whnf))
      | (rw [c_tl h5]; (conv => whnf))
      | (rw [c_t7 h5]; (conv => whnf))
      | (rw [c_tf h5 (by decide)]; (conv => whnf))
      | (rw [c_t0 h5]; (conv => whnf))
      | (rw [c_t1 h5]; (conv => whnf))
      | (rw [c_t2 h5]; (conv => whnf))
      | (rw [c_t3 h5]; (conv => whnf))
      | (rw [c_t4 h5]; (conv => whnf))
      | (rw [c_t5 h5]; (conv => whnf))
      | (refine And.intro ⟨_, c_tl h5⟩ ?_; (conv => whnf))
      | (refine And.intro (fun c => ?_) (fun c => ?_) <;> (first | (exact absurd c (by decide +kernel)) | (conv => whnf)))
      | fail)
    intro J hJ
    (conv => whnf)
    repeat' (first
      | ((with_reducible refine @And.intro (vp_in _ _) _ ?_ ?_); (· (first | with_reducible assumption | ((with_reducible refine t_vin ?_); decide) | ((with_reducible refine vp_in_nI ?_ ?_) <;> first | omega | decide) | (simp (disch := omega) only [xl_n, xl_m, nI_dec, nI_sb, nI_add, pk_mul]; (with_reducible refine vp_in_nI ?_ ?_) <;> first | omega | decide))); (conv => whnf))
      | (refine And.intro (by first | with_reducible assumption | exact (show cL _ _ = _ from rfl) | decide) ?_; (conv => whnf))
      | ((with_reducible refine @And.intro (_ = _) _ ?_ ?_); (· rfl); (conv => whnf))
      | ((with_reducible refine @And.intro (@LE.le Nat _ _ _) _ ?_ ?_); (· (first | exact Nat.zero_le _ | exact Nat.le_of_ble_eq_true rfl | omega)); (conv => whnf))
      | ((with_reducible refine @And.intro (@LT.lt Nat _ _ _) _ ?_ ?_); (· omega); (conv => whnf))
      | ((with_reducible refine @And.intro (∃ _, _ = _) _ ?_ ?_); (· exact ⟨_, rfl⟩); (conv => whnf))
      | ((with_reducible refine @And.intro (_ ∨ _) _ ?_ ?_); (· (first | exact Or.inl rfl | exact Or.inr rfl | exact t_b01 _ | assumption)); (conv => whnf))
      | ((with_reducible refine @And.intro (¬ (_ = _)) _ ?_ ?_); (· first | assumption | (with_reducible assumption)); (conv => whnf))
      | (refine hX _ _ _ _ _ _ ?_; (conv => whnf); fail_if_success show False)
      | (rw [c_si]; (conv => whnf))
      | (refine ⟨_, rfl, ?_⟩; (conv => whnf))
      | (refine ⟨_, _, rfl, ?_⟩; (conv => whnf))
      | (refine ⟨_, _, _, rfl, ?_⟩; (conv => whnf))
      | (refine ⟨_, _, _, _, rfl, ?_⟩; (conv => whnf))
      | (refine And.intro (fun c => ?_) (fun c => ?_) <;> (first | (exact absurd c (by decide +kernel)) | (conv => whnf)))
      | fail)
    refine c_ask hQ hg hJ.sp ?_
    rw [nI_clamp (by omega)]
    rfl
  · exact c_ref0 hQ hg e hx n1_0
theorem ct_X1_chooses : xm_Ct cI yX1_chooses (ws_ yX1_chooses cX1_chooses 2 (some .int)) 162 1 6 S_X1_chooses := xm_enter (rt := 0) (init := false) (by decide +kernel) rfl (fun h => by cases h) (Or.inl ⟨rfl, rfl⟩) (oX1_chooses) body_X1_chooses
theorem cv_X1_chooses {own : String} {cc : ByteArray} {fr pc idx : Nat} (hdg : decode cc pc = .ok (.invokevirtual idx, 3)) (hl : xm_ml own idx yX1_chooses) (hfr : 162 < fr) : xm_CallOK cI own cc fr pc (pc + 3) 2 1 6 (xm_this 0 S_X1_chooses) := xm_callV 0 cI_good (ct_X1_chooses) hdg hl q1638 q1639 q116 q1640 rfl rfl (by decide +kernel) hfr (by decide)
