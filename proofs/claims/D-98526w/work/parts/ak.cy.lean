/-! ===== the component: acts, restore ===== -/
set_option maxRecDepth 100000
def c_ls (P : cP) (I : tI) : Prop := P.1 ≤ 6 ∧ I 40 2 = nI P.1 ∧ P.1 ≤ P.2.1 ∧ P.2.1 < 2 ^ 31
theorem c_good.ls {P : cP} {Z : cX} {I : tI} {L : List lC} (h : c_good P Z I L) : c_ls P I := h.2.2.1
section
variable {P : cP} {X : cX} {I : tI} {a : Nat}
theorem c_ac (h : a < P.1) (h6 : P.1 ≤ 6) : (cW P X I).1 (80 + a) = some (11, 4) := by
  rw [c_lay (by omega)]
  unfold cL
  rw [c_bge (show 10 ≤ 80 + a by omega), c_bge (show 13 ≤ 80 + a by omega), c_bge (show 41 ≤ 80 + a by omega), c_bge (show 42 ≤ 80 + a by omega), c_bge (show 80 ≤ 80 + a by omega), c_blt (show 80 + a < 90 by omega), c_blt (show 80 + a - 80 < P.1 by omega)]
theorem c_av (h : a < P.1) (h6 : P.1 ≤ 6) : (cW P X I).1 (90 + a) = some (100, 6) := by
  rw [c_lay (by omega)]
  unfold cL
  rw [c_bge (show 10 ≤ 90 + a by omega), c_bge (show 13 ≤ 90 + a by omega), c_bge (show 41 ≤ 90 + a by omega), c_bge (show 42 ≤ 90 + a by omega), c_bge (show 80 ≤ 90 + a by omega), c_bge (show 90 ≤ 90 + a by omega), c_blt (show 90 + a < 100 by omega), c_blt (show 90 + a - 90 < P.1 by omega)]
theorem c_af (h : a < P.1) (h6 : P.1 ≤ 6) : xm_fld (cW P X I) (80 + a) 1 1 = .ref (90 + a) := by
  have e : (cW P X I).2.2.1 (80 + a) 1 = some (90 + a) := by
    show (match Nat.blt (80 + a) 1000 with | true => cR P (80 + a) 1 | false => X.2 (80 + a) 1) = _
    rw [c_blt (show 80 + a < 1000 by omega)]
    have : a = 0 ∨ a = 1 ∨ a = 2 ∨ a = 3 ∨ a = 4 ∨ a = 5 := by omega
    rcases this with rfl | rfl | rfl | rfl | rfl | rfl <;> rfl
  show va_rf ((cW P X I).2.2.1 (80 + a) 1) = _
  rw [e]
  rfl
theorem c_el (h : a < P.1) (h6 : P.1 ≤ 6) : xm_fld (cW P X I) 41 (nI a).toNatClampNeg 1 = .ref (80 + a) := by
  rw [nI_clamp (by omega)]
  show va_rf (match Nat.blt a P.1 with | true => some (80 + a) | false => none) = _
  rw [c_blt h]
  rfl
end
abbrev bJ14_checkIndex_0 : List xE := [(.iload_n 0, 1, 0, 0, 0), (.ifCond .lt 8, 4, 0, 9, 0), (.iload_n 0, 5, 0, 0, 0), (.iload_n 1, 6, 0, 0, 0), (.if_icmp .lt 10, 9, 0, 16, 0)]
abbrev bJ14_checkIndex_16 : List xE := [(.iload_n 0, 17, 0, 0, 0), (.ireturn, 18, 0, 0, 0)]
abbrev kJ14_checkIndex : List (Nat × List xE) := [(0, bJ14_checkIndex_0), (16, bJ14_checkIndex_16)]
abbrev lJ14_checkIndex : List (Nat × Nat × Nat × xS) := []
theorem oJ14_checkIndex_0  : xm_okb cI RJ14 cJ14_checkIndex false 1 lJ14_checkIndex bJ14_checkIndex_0 0 := xo_0 dJ14_checkIndex_0 rfl trivial (xo_0 dJ14_checkIndex_1 rfl rfl (xo_0 dJ14_checkIndex_4 rfl trivial (xo_0 dJ14_checkIndex_5 rfl trivial (xo_0 dJ14_checkIndex_6 rfl rfl (xo_n)))))
theorem oJ14_checkIndex_16  : xm_okb cI RJ14 cJ14_checkIndex false 1 lJ14_checkIndex bJ14_checkIndex_16 16 := xo_0 dJ14_checkIndex_16 rfl trivial (xo_0 dJ14_checkIndex_17 rfl trivial (xo_n))
theorem oJ14_checkIndex  : ∀ q ∈ kJ14_checkIndex, xm_okb cI RJ14 cJ14_checkIndex false 1 lJ14_checkIndex q.2 q.1 := by
  intro q hq
  simp only [List.mem_cons, List.not_mem_nil, or_false] at hq
  rcases hq with rfl | rfl
  · exact oJ14_checkIndex_0  
  · exact oJ14_checkIndex_16  
def S_J14_checkIndex : xS := fun as w Q _ => ∃ n m, as = [.int (nI n), .int (nI m), .null] ∧ n < m ∧ m < 2 ^ 31 ∧ Q (some (.int (nI n))) w
theorem body_J14_checkIndex : xm_Body 3 0 0 0 [] lJ14_checkIndex kJ14_checkIndex S_J14_checkIndex := by
  intro X avs w Q QX hX0 hS
  have hG := xm_go [] hX0
  have hX := xm_go [] hX0
  clear hX0
  obtain ⟨n, m, rfl, h1, h2, hQ⟩ := hS
  have d1 : ¬ nI n < 0 := (nI_nn (by omega)).1
  have d2 : nI n < nI m := by
    rw [t_lt, nI_leI (by omega) (by omega)]
    omega
  refine ⟨rfl, ?_⟩
  repeat' (first
    | ((with_reducible refine @And.intro (vp_in _ _) _ ?_ ?_); (· (first | with_reducible assumption | ((with_reducible refine t_vin ?_); decide) | ((with_reducible refine vp_in_nI ?_ ?_) <;> first | omega | decide) | (simp (disch := omega) only [xl_n, xl_m, nI_dec, nI_sb, nI_add, pk_mul]; (with_reducible refine vp_in_nI ?_ ?_) <;> first | omega | decide))); (conv => whnf))
    | (refine And.intro (by first | with_reducible assumption | exact (show cL _ _ = _ from rfl) | decide) ?_; (conv => whnf))
    | ((with_reducible refine @And.intro (_ = _) _ ?_ ?_); (· rfl); (conv => whnf))
    | ((with_reducible refine @And.intro (@LE.le Nat _ _ _) _ ?_ ?_); (· (first | exact Nat.zero_le _ | exact Nat.le_of_ble_eq_true rfl | omega)); (conv => whnf))
    | ((with_reducible refine @And.intro (@LT.lt Nat _ _ _) _ ?_ ?_); (· omega); (conv => whnf))
    | ((with_reducible refine @And.intro (∃ _, _ = _) _ ?_ ?_); (· exact ⟨_, rfl⟩); (conv => whnf))
    | ((with_reducible refine @And.intro (_ ∨ _) _ ?_ ?_); (· (first | exact Or.inl rfl | exact Or.inr rfl | exact t_b01 _ | assumption)); (conv => whnf))
    | ((with_reducible refine @And.intro (¬ (_ = _)) _ ?_ ?_); (· first | assumption | (with_reducible assumption)); (conv => whnf))
    | (refine hX _ _ _ _ _ _ ?_; (conv => whnf); fail_if_success show False)
    | (rw [c_si]; (conv => whnf))
    | (refine ⟨_, rfl, ?_⟩; (conv => whnf))
    | (refine ⟨_, _, rfl, ?_⟩; (conv => whnf))
    | (refine ⟨_, _, _, rfl, ?_⟩; (conv => whnf))
    | (refine ⟨_, _, _, _, rfl, ?_⟩; (conv => whnf))
    | (refine And.intro (fun c => ?_) (fun c => ?_) <;> (first | (exact absurd c (by decide +kernel)) | (exact absurd c (by assumption)) | (exact False.elim (c (by assumption))) | (conv => whnf)))
    | fail)
  exact hQ
theorem ct_J14_checkIndex : xm_Ct cI yJ14_checkIndex (ws_ yJ14_checkIndex cJ14_checkIndex 3 (some .int)) 1 0 0 S_J14_checkIndex := xm_enter (rt := 0) (init := false) (by decide +kernel) rfl (fun h => by cases h) (Or.inl ⟨rfl, rfl⟩) (oJ14_checkIndex) body_J14_checkIndex
theorem cv_J14_checkIndex {own : String} {cc : ByteArray} {fr pc idx : Nat} (hdg : decode cc pc = .ok (.invokestatic idx, 3)) (hl : xm_ml own idx yJ14_checkIndex) (hfr : 1 < fr) : xm_CallOK cI own cc fr pc (pc + 3) 3 0 0 S_J14_checkIndex := xm_callS cI_good (ct_J14_checkIndex) hdg hl q834 q133 q835 (by decide +kernel) hfr (by decide)
abbrev bJ18_checkIndex_0 : List xE := [(.iload_n 0, 1, 0, 0, 0), (.iload_n 1, 2, 0, 0, 0), (.aconst_null, 3, 0, 0, 0), (.invokestatic 105, 6, 0, 0, 9), (.ireturn, 7, 0, 0, 0)]
abbrev kJ18_checkIndex : List (Nat × List xE) := [(0, bJ18_checkIndex_0)]
abbrev lJ18_checkIndex : List (Nat × Nat × Nat × xS) := [(3, 0, 0, S_J14_checkIndex)]
theorem oJ18_checkIndex_0  : xm_okb cI RJ18 cJ18_checkIndex false 2 lJ18_checkIndex bJ18_checkIndex_0 0 := xo_0 dJ18_checkIndex_0 rfl trivial (xo_0 dJ18_checkIndex_1 rfl trivial (xo_0 dJ18_checkIndex_2 rfl trivial (xo_c rfl (cv_J14_checkIndex dJ18_checkIndex_3 (Or.inl q833) (by decide)) (xo_0 dJ18_checkIndex_6 rfl trivial (xo_n)))))
theorem oJ18_checkIndex  : ∀ q ∈ kJ18_checkIndex, xm_okb cI RJ18 cJ18_checkIndex false 2 lJ18_checkIndex q.2 q.1 := by
  intro q hq
  simp only [List.mem_cons, List.not_mem_nil, or_false] at hq
  subst hq
  exact oJ18_checkIndex_0  
def S_J18_checkIndex : xS := fun as w Q _ => ∃ n m, as = [.int (nI n), .int (nI m)] ∧ n < m ∧ m < 2 ^ 31 ∧ Q (some (.int (nI n))) w
theorem body_J18_checkIndex : xm_Body 2 0 0 0 [] lJ18_checkIndex kJ18_checkIndex S_J18_checkIndex := by
  intro X avs w Q QX hX0 hS
  have hG := xm_go [] hX0
  have hX := xm_go [] hX0
  clear hX0
  obtain ⟨n, m, rfl, h1, h2, hQ⟩ := hS
  refine ⟨rfl, ?_⟩
  repeat' (first
    | ((with_reducible refine @And.intro (vp_in _ _) _ ?_ ?_); (· (first | with_reducible assumption | ((with_reducible refine t_vin ?_); decide) | ((with_reducible refine vp_in_nI ?_ ?_) <;> first | omega | decide) | (simp (disch := omega) only [xl_n, xl_m, nI_dec, nI_sb, nI_add, pk_mul]; (with_reducible refine vp_in_nI ?_ ?_) <;> first | omega | decide))); (conv => whnf))
    | (refine And.intro (by first | with_reducible assumption | exact (show cL _ _ = _ from rfl) | decide) ?_; (conv => whnf))
    | ((with_reducible refine @And.intro (_ = _) _ ?_ ?_); (· rfl); (conv => whnf))
    | ((with_reducible refine @And.intro (@LE.le Nat _ _ _) _ ?_ ?_); (· (first | exact Nat.zero_le _ | exact Nat.le_of_ble_eq_true rfl | omega)); (conv => whnf))
    | ((with_reducible refine @And.intro (@LT.lt Nat _ _ _) _ ?_ ?_); (· omega); (conv => whnf))
    | ((with_reducible refine @And.intro (∃ _, _ = _) _ ?_ ?_); (· exact ⟨_, rfl⟩); (conv => whnf))
    | ((with_reducible refine @And.intro (_ ∨ _) _ ?_ ?_); (· (first | exact Or.inl rfl | exact Or.inr rfl | exact t_b01 _ | assumption)); (conv => whnf))
    | ((with_reducible refine @And.intro (¬ (_ = _)) _ ?_ ?_); (· first | assumption | (with_reducible assumption)); (conv => whnf))
    | (refine hX _ _ _ _ _ _ ?_; (conv => whnf); fail_if_success show False)
    | (rw [c_si]; (conv => whnf))
    | (refine ⟨_, rfl, ?_⟩; (conv => whnf))
    | (refine ⟨_, _, rfl, ?_⟩; (conv => whnf))
    | (refine ⟨_, _, _, rfl, ?_⟩; (conv => whnf))
    | (refine ⟨_, _, _, _, rfl, ?_⟩; (conv => whnf))
    | (refine ⟨n,m,rfl,h1,h2,?_⟩; (conv => whnf))
    | (refine And.intro (fun c => ?_) (fun c => ?_) <;> (first | (exact absurd c (by decide +kernel)) | (conv => whnf)))
    | fail)
  exact hQ
theorem ct_J18_checkIndex : xm_Ct cI yJ18_checkIndex (ws_ yJ18_checkIndex cJ18_checkIndex 2 (some .int)) 2 0 0 S_J18_checkIndex := xm_enter (rt := 0) (init := false) (by decide +kernel) rfl (fun h => by cases h) (Or.inl ⟨rfl, rfl⟩) (oJ18_checkIndex) body_J18_checkIndex
theorem cv_J18_checkIndex {own : String} {cc : ByteArray} {fr pc idx : Nat} (hdg : decode cc pc = .ok (.invokestatic idx, 3)) (hl : xm_ml own idx yJ18_checkIndex) (hfr : 2 < fr) : xm_CallOK cI own cc fr pc (pc + 3) 2 0 0 S_J18_checkIndex := xm_callS cI_good (ct_J18_checkIndex) hdg hl q831 q157 q832 (by decide +kernel) hfr (by decide)
abbrev bJ2_elementData_0 : List xE := [(.aload_n 0, 1, 0, 0, 0), (.getfield 9, 4, 18, 1, 1), (.iload_n 1, 5, 0, 0, 0), (.aaload, 6, 0, 0, 0), (.areturn, 7, 0, 0, 0)]
abbrev kJ2_elementData : List (Nat × List xE) := [(0, bJ2_elementData_0)]
abbrev lJ2_elementData : List (Nat × Nat × Nat × xS) := []
theorem oJ2_elementData_0  : xm_okb cI RJ2 cJ2_elementData false 1 lJ2_elementData bJ2_elementData_0 0 := xo_0 dJ2_elementData_0 rfl trivial (xo_1 dJ2_elementData_1 rfl (xm_fg_of (Or.inl q503) (by decide) rfl (by decide) rfl rfl (Or.inl rfl) rfl) (xo_0 dJ2_elementData_4 rfl trivial (xo_0 dJ2_elementData_5 rfl trivial (xo_0 dJ2_elementData_6 rfl trivial (xo_n)))))
theorem oJ2_elementData  : ∀ q ∈ kJ2_elementData, xm_okb cI RJ2 cJ2_elementData false 1 lJ2_elementData q.2 q.1 := by
  intro q hq
  simp only [List.mem_cons, List.not_mem_nil, or_false] at hq
  subst hq
  exact oJ2_elementData_0  
def S_J2_elementData : xS := cU fun as P Z I Q QX => ∃ a, as = [.ref 40, .int (nI a)] ∧ a < P.1 ∧ c_ls P I ∧ Q (some (.ref (80 + a))) I
theorem body_J2_elementData : xm_Body 2 3 0 0 [] lJ2_elementData kJ2_elementData S_J2_elementData := by
  intro X avs w Q QX hX0 hS
  have hG := xm_go [] hX0
  have hX := xm_go [] hX0
  clear hX0
  obtain ⟨P, Z, I, rfl, a, rfl, ha, ⟨h6, hs, hc, hc2⟩, hQ⟩ := hS
  refine ⟨rfl, ?_⟩
  repeat' (first
    | ((with_reducible refine @And.intro (vp_in _ _) _ ?_ ?_); (· (first | with_reducible assumption | ((with_reducible refine t_vin ?_); decide) | ((with_reducible refine vp_in_nI ?_ ?_) <;> first | omega | decide) | (simp (disch := omega) only [xl_n, xl_m, nI_dec, nI_sb, nI_add, pk_mul]; (with_reducible refine vp_in_nI ?_ ?_) <;> first | omega | decide))); (conv => whnf))
    | (refine And.intro (by first | with_reducible assumption | exact (show cL _ _ = _ from rfl) | decide) ?_; (conv => whnf))
    | ((with_reducible refine @And.intro (_ = _) _ ?_ ?_); (· rfl); (conv => whnf))
    | ((with_reducible refine @And.intro (@LE.le Nat _ _ _) _ ?_ ?_); (· (first | exact Nat.zero_le _ | exact Nat.le_of_ble_eq_true rfl | omega)); (conv => whnf))
    | ((with_reducible refine @And.intro (@LT.lt Nat _ _ _) _ ?_ ?_); (· omega); (conv => whnf))
    | ((with_reducible refine @And.intro (∃ _, _ = _) _ ?_ ?_); (· exact ⟨_, rfl⟩); (conv => whnf))
    | ((with_reducible refine @And.intro (_ ∨ _) _ ?_ ?_); (· (first | exact Or.inl rfl | exact Or.inr rfl | exact t_b01 _ | assumption)); (conv => whnf))
    | ((with_reducible refine @And.intro (¬ (_ = _)) _ ?_ ?_); (· first | assumption | (with_reducible assumption)); (conv => whnf))
    | (refine hX _ _ _ _ _ _ ?_; (conv => whnf); fail_if_success show False)
    | (rw [c_si]; (conv => whnf))
    | (refine ⟨_, rfl, ?_⟩; (conv => whnf))
    | (refine ⟨_, _, rfl, ?_⟩; (conv => whnf))
    | (refine ⟨_, _, _, rfl, ?_⟩; (conv => whnf))
    | (refine ⟨_, _, _, _, rfl, ?_⟩; (conv => whnf))
    | (rw [c_el ha h6]; (conv => whnf))
    | (refine And.intro (fun c => ?_) (fun c => ?_) <;> (first | (exact absurd c (by decide +kernel)) | (conv => whnf)))
    | fail)
  exact hQ
theorem ct_J2_elementData : xm_Ct cI yJ2_elementData (ws_ yJ2_elementData cJ2_elementData 2 (some (.object "java/lang/Object"))) 1 0 0 S_J2_elementData := xm_enter (rt := 3) (init := false) (by decide +kernel) rfl (fun h => by cases h) (Or.inr (Or.inr (Or.inr (Or.inl ⟨rfl, Or.inl ⟨_, rfl⟩⟩)))) (oJ2_elementData) body_J2_elementData
theorem cv_J2_elementData {own : String} {cc : ByteArray} {fr pc idx : Nat} (hdg : decode cc pc = .ok (.invokevirtual idx, 3)) (hl : xm_ml own idx yJ2_elementData) (hfr : 1 < fr) : xm_CallOK cI own cc fr pc (pc + 3) 2 0 0 (xm_this 18 S_J2_elementData) := xm_callV 18 cI_good (ct_J2_elementData) hdg hl q837 q838 q120 q839 rfl rfl (by decide +kernel) hfr (by decide)
abbrev bJ2_get_0 : List xE := [(.iload_n 1, 1, 0, 0, 0), (.aload_n 0, 2, 0, 0, 0), (.getfield 48, 5, 18, 2, 0), (.invokestatic 118, 8, 0, 0, 9), (.pop, 9, 0, 0, 0), (.aload_n 0, 10, 0, 0, 0), (.iload_n 1, 11, 0, 0, 0), (.invokevirtual 123, 14, 0, 1, 9), (.areturn, 15, 0, 0, 0)]
abbrev kJ2_get : List (Nat × List xE) := [(0, bJ2_get_0)]
abbrev lJ2_get : List (Nat × Nat × Nat × xS) := [(2, 0, 0, S_J18_checkIndex), (2, 0, 0, xm_this 18 S_J2_elementData)]
theorem oJ2_get_0  : xm_okb cI RJ2 cJ2_get false 3 lJ2_get bJ2_get_0 0 := xo_0 dJ2_get_0 rfl trivial (xo_0 dJ2_get_1 rfl trivial (xo_0 dJ2_get_2 rfl (xm_fg_of (Or.inl q504) (by decide) rfl (by decide) rfl rfl (Or.inl rfl) rfl) (xo_c rfl (cv_J18_checkIndex dJ2_get_5 (Or.inl q830) (by decide)) (xo_0 dJ2_get_8 rfl trivial (xo_0 dJ2_get_9 rfl trivial (xo_0 dJ2_get_10 rfl trivial (xo_c rfl (cv_J2_elementData dJ2_get_11 (Or.inl q836) (by decide)) (xo_0 dJ2_get_14 rfl trivial (xo_n)))))))))
theorem oJ2_get  : ∀ q ∈ kJ2_get, xm_okb cI RJ2 cJ2_get false 3 lJ2_get q.2 q.1 := by
  intro q hq
  simp only [List.mem_cons, List.not_mem_nil, or_false] at hq
  subst hq
  exact oJ2_get_0  
def S_J2_get : xS := cU fun as P Z I Q QX => ∃ a, as = [.ref 40, .int (nI a)] ∧ a < P.1 ∧ c_ls P I ∧ Q (some (.ref (80 + a))) I
theorem body_J2_get : xm_Body 2 3 0 0 [] lJ2_get kJ2_get S_J2_get := by
  intro X avs w Q QX hX0 hS
  have hG := xm_go [] hX0
  have hX := xm_go [] hX0
  clear hX0
  obtain ⟨P, Z, I, rfl, a, rfl, ha, hl, hQ⟩ := hS
  obtain ⟨h6, hs, hc, hc2⟩ := id hl
  refine ⟨rfl, ?_⟩
  repeat' (first
    | ((with_reducible refine @And.intro (vp_in _ _) _ ?_ ?_); (· (first | with_reducible assumption | ((with_reducible refine t_vin ?_); decide) | ((with_reducible refine vp_in_nI ?_ ?_) <;> first | omega | decide) | (simp (disch := omega) only [xl_n, xl_m, nI_dec, nI_sb, nI_add, pk_mul]; (with_reducible refine vp_in_nI ?_ ?_) <;> first | omega | decide))); (conv => whnf))
    | (refine And.intro (by first | with_reducible assumption | exact (show cL _ _ = _ from rfl) | decide) ?_; (conv => whnf))
    | ((with_reducible refine @And.intro (_ = _) _ ?_ ?_); (· rfl); (conv => whnf))
    | ((with_reducible refine @And.intro (@LE.le Nat _ _ _) _ ?_ ?_); (· (first | exact Nat.zero_le _ | exact Nat.le_of_ble_eq_true rfl | omega)); (conv => whnf))
    | ((with_reducible refine @And.intro (@LT.lt Nat _ _ _) _ ?_ ?_); (· omega); (conv => whnf))
    | ((with_reducible refine @And.intro (∃ _, _ = _) _ ?_ ?_); (· exact ⟨_, rfl⟩); (conv => whnf))
    | ((with_reducible refine @And.intro (_ ∨ _) _ ?_ ?_); (· (first | exact Or.inl rfl | exact Or.inr rfl | exact t_b01 _ | assumption)); (conv => whnf))
    | ((with_reducible refine @And.intro (¬ (_ = _)) _ ?_ ?_); (· first | assumption | (with_reducible assumption)); (conv => whnf))
    | (refine hX _ _ _ _ _ _ ?_; (conv => whnf); fail_if_success show False)
    | (rw [c_si]; (conv => whnf))
    | (refine ⟨_, rfl, ?_⟩; (conv => whnf))
    | (refine ⟨_, _, rfl, ?_⟩; (conv => whnf))
    | (refine ⟨_, _, _, rfl, ?_⟩; (conv => whnf))
    | (refine ⟨_, _, _, _, rfl, ?_⟩; (conv => whnf))
    | (refine ⟨a,P.1,congrArg (fun z => [Value.int (nI a),Value.int z]) hs,ha,(by omega),?_⟩; (conv => whnf))
    | (refine ⟨a,rfl,ha,hl,?_⟩; (conv => whnf))
    | (refine And.intro (fun c => ?_) (fun c => ?_) <;> (first | (exact absurd c (by decide +kernel)) | (conv => whnf)))
    | fail)
  exact hQ
theorem ct_J2_get : xm_Ct cI yJ2_get (ws_ yJ2_get cJ2_get 2 (some (.object "java/lang/Object"))) 3 0 0 S_J2_get := xm_enter (rt := 3) (init := false) (by decide +kernel) rfl (fun h => by cases h) (Or.inr (Or.inr (Or.inr (Or.inl ⟨rfl, Or.inl ⟨_, rfl⟩⟩)))) (oJ2_get) body_J2_get
theorem cv_J2_get {own : String} {cc : ByteArray} {fr pc idx : Nat} (hdg : decode cc pc = .ok (.invokevirtual idx, 3)) (hl : xm_ml own idx yJ2_get) (hfr : 3 < fr) : xm_CallOK cI own cc fr pc (pc + 3) 2 0 0 (xm_this 18 S_J2_get) := xm_callV 18 cI_good (ct_J2_get) hdg hl q827 q828 q120 q829 rfl rfl (by decide +kernel) hfr (by decide)
abbrev bX1_actOf_0 : List xE := [(.aload_n 0, 1, 0, 0, 0), (.getfield 31, 4, 0, 0, 1), (.getfield 136, 7, 1, 10, 1), (.iload_n 1, 8, 0, 0, 0), (.invokevirtual 256, 11, 0, 0, 9), (.checkcast 260, 14, 0, 1, 9), (.areturn, 15, 0, 0, 0)]
abbrev kX1_actOf : List (Nat × List xE) := [(0, bX1_actOf_0)]
abbrev lX1_actOf : List (Nat × Nat × Nat × xS) := [(2, 0, 0, xm_this 18 S_J2_get), (1, 0, 0, (S_cst 11))]
theorem oX1_actOf_0  : xm_okb cI RX1 cX1_actOf false 4 lX1_actOf bX1_actOf_0 0 := xo_0 dX1_actOf_0 rfl trivial (xo_1 dX1_actOf_1 rfl (xm_fg_of (Or.inl q716) (by decide) rfl (by decide) rfl rfl (Or.inl rfl) rfl) (xo_1 dX1_actOf_4 rfl (xm_fg_of (Or.inr ⟨_, q552⟩) (by decide) rfl (by decide) rfl rfl (Or.inl rfl) rfl) (xo_0 dX1_actOf_7 rfl trivial (xo_c rfl (cv_J2_get dX1_actOf_8 (Or.inl q826) (by decide)) (xo_c rfl (xc_cst 11 dX1_actOf_11 q840 rfl) (xo_0 dX1_actOf_14 rfl trivial (xo_n)))))))
theorem oX1_actOf  : ∀ q ∈ kX1_actOf, xm_okb cI RX1 cX1_actOf false 4 lX1_actOf q.2 q.1 := by
  intro q hq
  simp only [List.mem_cons, List.not_mem_nil, or_false] at hq
  subst hq
  exact oX1_actOf_0  
def S_X1_actOf : xS := cU fun as P Z I Q QX => ∃ a, as = [.ref 0, .int (nI a)] ∧ a < P.1 ∧ c_ls P I ∧ Q (some (.ref (80 + a))) I
theorem body_X1_actOf : xm_Body 2 3 0 0 [] lX1_actOf kX1_actOf S_X1_actOf := by
  intro X avs w Q QX hX0 hS
  have hG := xm_go [] hX0
  have hX := xm_go [] hX0
  clear hX0
  obtain ⟨P, Z, I, rfl, a, rfl, ha, hl, hQ⟩ := hS
  have h6 := hl.1
  refine ⟨rfl, ?_⟩
  repeat' (first
    | ((with_reducible refine @And.intro (vp_in _ _) _ ?_ ?_); (· (first | with_reducible assumption | ((with_reducible refine t_vin ?_); decide) | ((with_reducible refine vp_in_nI ?_ ?_) <;> first | omega | decide) | (simp (disch := omega) only [xl_n, xl_m, nI_dec, nI_sb, nI_add, pk_mul]; (with_reducible refine vp_in_nI ?_ ?_) <;> first | omega | decide))); (conv => whnf))
    | (refine And.intro (by first | with_reducible assumption | exact (show cL _ _ = _ from rfl) | decide) ?_; (conv => whnf))
    | ((with_reducible refine @And.intro (_ = _) _ ?_ ?_); (· rfl); (conv => whnf))
    | ((with_reducible refine @And.intro (@LE.le Nat _ _ _) _ ?_ ?_); (· (first | exact Nat.zero_le _ | exact Nat.le_of_ble_eq_true rfl | omega)); (conv => whnf))
    | ((with_reducible refine @And.intro (@LT.lt Nat _ _ _) _ ?_ ?_); (· omega); (conv => whnf))
    | ((with_reducible refine @And.intro (∃ _, _ = _) _ ?_ ?_); (· exact ⟨_, rfl⟩); (conv => whnf))
    | ((with_reducible refine @And.intro (_ ∨ _) _ ?_ ?_); (· (first | exact Or.inl rfl | exact Or.inr rfl | exact t_b01 _ | assumption)); (conv => whnf))
    | ((with_reducible refine @And.intro (¬ (_ = _)) _ ?_ ?_); (· first | assumption | (with_reducible assumption)); (conv => whnf))
    | (refine hX _ _ _ _ _ _ ?_; (conv => whnf); fail_if_success show False)
    | (rw [c_si]; (conv => whnf))
    | (refine ⟨_, rfl, ?_⟩; (conv => whnf))
    | (refine ⟨_, _, rfl, ?_⟩; (conv => whnf))
    | (refine ⟨_, _, _, rfl, ?_⟩; (conv => whnf))
    | (refine ⟨_, _, _, _, rfl, ?_⟩; (conv => whnf))
    | (refine ⟨a,rfl,ha,hl,?_⟩; (conv => whnf))
    | (refine ⟨80+a,4,rfl,c_ac ha h6,?_⟩; (conv => whnf))
    | (refine And.intro (fun c => ?_) (fun c => ?_) <;> (first | (exact absurd c (by decide +kernel)) | (conv => whnf)))
    | fail)
  exact hQ
theorem ct_X1_actOf : xm_Ct cI yX1_actOf (ws_ yX1_actOf cX1_actOf 2 (some (.object "PuppetHeirs$Act"))) 4 0 0 S_X1_actOf := xm_enter (rt := 3) (init := false) (by decide +kernel) rfl (fun h => by cases h) (Or.inr (Or.inr (Or.inr (Or.inl ⟨rfl, Or.inl ⟨_, rfl⟩⟩)))) (oX1_actOf) body_X1_actOf
theorem cv_X1_actOf {own : String} {cc : ByteArray} {fr pc idx : Nat} (hdg : decode cc pc = .ok (.invokevirtual idx, 3)) (hl : xm_ml own idx yX1_actOf) (hfr : 4 < fr) : xm_CallOK cI own cc fr pc (pc + 3) 2 0 0 (xm_this 0 S_X1_actOf) := xm_callV 0 cI_good (ct_X1_actOf) hdg hl q824 qs7 q116 q825 rfl rfl (by decide +kernel) hfr (by decide)
/-- how many hands the puppets of a set need -/
def g_ndo (K : gK) (x : Int32) : Int32 := t_sum (gm K) fun p => if t_has x p = true then gneeds K p else nI 0
theorem t_sum_z : ∀ {n : Nat} {f : Nat → Int32}, (∀ k, k < n → f k = nI 0) → t_sum n f = nI 0
  | 0, _, _ => rfl
  | n + 1, f, h => by
    rw [t_sum_s, t_sum_z fun k hk => h k (by omega), h n (by omega)]
    rfl
theorem t_sum_1 {A : Nat → Bool} {f : Nat → Int32} {q : Nat} (ha : A q = false) : ∀ {n : Nat}, t_sum n (fun p => if (A p || decide (p = q)) = true then f p else nI 0) = t_sum n (fun p => if A p = true then f p else nI 0) + if q < n then f q else nI 0
  | 0 => rfl
  | n + 1 => by
    rw [t_sum_s, t_sum_1 ha, t_sum_s]
    by_cases e : n = q
    · subst e
      rw [if_neg (show ¬ n < n by omega), ha, if_pos (show n < n + 1 by omega), decide_eq_true rfl]
      simp
    · have e2 : (if q < n + 1 then f q else nI 0) = (if q < n then f q else nI 0) := by
        by_cases z : q < n
        · rw [if_pos z, if_pos (by omega)]
        · rw [if_neg z, if_neg (by omega)]
      rw [decide_eq_false e, Bool.or_false, e2, Int32.add_assoc, Int32.add_comm (if q < n then f q else nI 0), ← Int32.add_assoc]
theorem g_bitsN_has {G : gG} {a : Nat} (h : ∀ i, i < gmany G a → gpup G a i < 32) : ∀ {n k : Nat}, n ≤ gmany G a → k < 32 → t_has (g_bitsN G a n) k = t_ex n fun i => decide (k = gpup G a i)
  | 0, k, _, hk => th_0 hk
  | n + 1, k, hn, hk => by
    rw [g_bitsN_s, th_or hk, g_bitsN_has h (by omega) hk, th_bit (h n (by omega)) hk]
    rfl
theorem g_ndo_bits {G : gG} {a : Nat} (hX : g_Xok G) (hm : gm (gGK G) ≤ 8) (ha : a < gacts G) : g_ndo (gGK G) (g_bits G a) = g_needs G a (gmany G a) := by
  obtain ⟨-, -, h3, h4⟩ := hX.2.2 a ha
  have : ∀ n, n ≤ gmany G a → t_sum (gm (gGK G)) (fun p => if t_has (g_bitsN G a n) p = true then gneeds (gGK G) p else nI 0) = g_needs G a n := by
    intro n
    induction n with
    | zero => exact fun _ => t_sum_z fun k hk => by rw [show t_has (g_bitsN G a 0) k = false from th_0 (by omega), if_neg (by decide)]
    | succ n ih =>
      intro hn
      have e : t_sum (gm (gGK G)) (fun p => if t_has (g_bitsN G a (n + 1)) p = true then gneeds (gGK G) p else nI 0) = t_sum (gm (gGK G)) (fun p => if (t_has (g_bitsN G a n) p || decide (p = gpup G a n)) = true then gneeds (gGK G) p else nI 0) := t_sum_c fun k hk => by
        have h32 := h3 n (by omega)
        rw [g_bitsN_s, th_or (by omega), th_bit (by omega) (by omega)]
      rw [e, t_sum_1, ih (by omega), if_pos (h3 n (by omega))]
      · rfl
      · rw [g_bitsN_has (fun i hi => by have := h3 i hi; omega) (by omega) (by have := h3 n (by omega); omega)]
        have : ∀ m, m ≤ n → t_ex m (fun i => decide (gpup G a n = gpup G a i)) = false := by
          intro m
          induction m with
          | zero => exact fun _ => rfl
          | succ m im =>
            intro hm2
            show (_ || _) = false
            rw [im (by omega)]
            show (false || decide (gpup G a n = gpup G a m)) = false
            rw [decide_eq_false (fun q => by have := h4 n m (by omega) (by omega) q; omega)]
            rfl
        exact this n (Nat.le_refl _)
  exact this _ (Nat.le_refl _)
abbrev bX1_needsOf_0 : List xE := [(.iconst 0, 1, 0, 0, 0), (.istore_n 2, 2, 0, 0, 0), (.iconst 0, 3, 0, 0, 0), (.istore_n 3, 4, 0, 0, 0)]
abbrev bX1_needsOf_4 : List xE := [(.iload_n 3, 5, 0, 0, 0), (.aload_n 0, 6, 0, 0, 0), (.getfield 31, 9, 0, 0, 1), (.getfield 133, 12, 1, 12, 0), (.if_icmp .ge 34, 15, 0, 46, 0), (.iload_n 2, 16, 0, 0, 0), (.iload_n 1, 17, 0, 0, 0), (.iload_n 3, 18, 0, 0, 0), (.ishr, 19, 0, 0, 0), (.iconst 1, 20, 0, 0, 0), (.iand, 21, 0, 0, 0), (.iconst 1, 22, 0, 0, 0), (.if_icmp .ne 15, 25, 0, 37, 0), (.aload_n 0, 26, 0, 0, 0), (.getfield 31, 29, 0, 0, 1), (.getfield 244, 32, 1, 6, 1), (.iload_n 3, 33, 0, 0, 0), (.iaload, 34, 0, 0, 0), (.goto 4, 37, 0, 38, 0)]
abbrev bX1_needsOf_37 : List xE := [(.iconst 0, 38, 0, 0, 0)]
abbrev bX1_needsOf_38 : List xE := [(.iadd, 39, 0, 0, 0), (.istore_n 2, 40, 0, 0, 0), (.iinc 3 1, 43, 0, 0, 0), (.goto (-39), 46, 0, 4, 0)]
abbrev bX1_needsOf_46 : List xE := [(.iload_n 2, 47, 0, 0, 0), (.ireturn, 48, 0, 0, 0)]
abbrev kX1_needsOf : List (Nat × List xE) := [(0, bX1_needsOf_0), (4, bX1_needsOf_4), (37, bX1_needsOf_37), (38, bX1_needsOf_38), (46, bX1_needsOf_46)]
abbrev lX1_needsOf : List (Nat × Nat × Nat × xS) := []
theorem oX1_needsOf_0  : xm_okb cI RX1 cX1_needsOf false 1 lX1_needsOf bX1_needsOf_0 0 := xo_0 dX1_needsOf_0 rfl trivial (xo_0 dX1_needsOf_1 rfl trivial (xo_0 dX1_needsOf_2 rfl trivial (xo_0 dX1_needsOf_3 rfl trivial (xo_n))))
theorem oX1_needsOf_4  : xm_okb cI RX1 cX1_needsOf false 1 lX1_needsOf bX1_needsOf_4 4 := xo_0 dX1_needsOf_4 rfl trivial (xo_0 dX1_needsOf_5 rfl trivial (xo_1 dX1_needsOf_6 rfl (xm_fg_of (Or.inl q716) (by decide) rfl (by decide) rfl rfl (Or.inl rfl) rfl) (xo_0 dX1_needsOf_9 rfl (xm_fg_of (Or.inr ⟨_, q560⟩) (by decide) rfl (by decide) rfl rfl (Or.inl rfl) rfl) (xo_0 dX1_needsOf_12 rfl rfl (xo_0 dX1_needsOf_15 rfl trivial (xo_0 dX1_needsOf_16 rfl trivial (xo_0 dX1_needsOf_17 rfl trivial (xo_0 dX1_needsOf_18 rfl trivial (xo_0 dX1_needsOf_19 rfl trivial (xo_0 dX1_needsOf_20 rfl trivial (xo_0 dX1_needsOf_21 rfl trivial (xo_0 dX1_needsOf_22 rfl rfl (xo_0 dX1_needsOf_25 rfl trivial (xo_1 dX1_needsOf_26 rfl (xm_fg_of (Or.inl q716) (by decide) rfl (by decide) rfl rfl (Or.inl rfl) rfl) (xo_1 dX1_needsOf_29 rfl (xm_fg_of (Or.inr ⟨_, q539⟩) (by decide) rfl (by decide) rfl rfl (Or.inl rfl) rfl) (xo_0 dX1_needsOf_32 rfl trivial (xo_0 dX1_needsOf_33 rfl trivial (xo_0 dX1_needsOf_34 rfl rfl (xo_n)))))))))))))))))))
theorem oX1_needsOf_37  : xm_okb cI RX1 cX1_needsOf false 1 lX1_needsOf bX1_needsOf_37 37 := xo_0 dX1_needsOf_37 rfl trivial (xo_n)
theorem oX1_needsOf_38  : xm_okb cI RX1 cX1_needsOf false 1 lX1_needsOf bX1_needsOf_38 38 := xo_0 dX1_needsOf_38 rfl trivial (xo_0 dX1_needsOf_39 rfl trivial (xo_0 dX1_needsOf_40 rfl trivial (xo_0 dX1_needsOf_43 rfl rfl (xo_n))))
theorem oX1_needsOf_46  : xm_okb cI RX1 cX1_needsOf false 1 lX1_needsOf bX1_needsOf_46 46 := xo_0 dX1_needsOf_46 rfl trivial (xo_0 dX1_needsOf_47 rfl trivial (xo_n))
theorem oX1_needsOf  : ∀ q ∈ kX1_needsOf, xm_okb cI RX1 cX1_needsOf false 1 lX1_needsOf q.2 q.1 := by
  intro q hq
  simp only [List.mem_cons, List.not_mem_nil, or_false] at hq
  rcases hq with rfl | rfl | rfl | rfl | rfl
  · exact oX1_needsOf_0  
  · exact oX1_needsOf_4  
  · exact oX1_needsOf_37  
  · exact oX1_needsOf_38  
  · exact oX1_needsOf_46  
def S_X1_needsOf : xS := cU fun as P Z I Q QX => ∃ x L, as = [.ref 0, .int x] ∧ c_ok I ∧ Q (some (.int (g_ndo (cK I L) x))) I
theorem body_X1_needsOf : xm_Body 4 0 0 0 [] lX1_needsOf kX1_needsOf S_X1_needsOf := by
  intro X avs w Q QX hX0 hS
  have hG := xm_go [] hX0
  have hX := xm_go [4] hX0
  clear hX0
  obtain ⟨P, Z, I, rfl, x, L, rfl, hok, hQ⟩ := hS
  obtain ⟨hn, h9, hm, h8⟩ := id hok
  have loop : ∀ k, k ≤ c_p I → X 4 [some (.ref 0), some (.int x), some (.int (t_sum k fun p => if t_has x p = true then gneeds (cK I L) p else nI 0)), some (.int (nI k))] [] (cW P Z I) 0 0 := by
    refine t_for fun k h1 ih => ?_
    refine hG _ _ _ _ _ _ ?_
    (conv => whnf)
    repeat' (first
      | ((with_reducible refine @And.intro (vp_in _ _) _ ?_ ?_); (· (first | with_reducible assumption | ((with_reducible refine t_vin ?_); decide) | ((with_reducible refine vp_in_nI ?_ ?_) <;> first | omega | decide) | (simp (disch := omega) only [xl_n, xl_m, nI_dec, nI_sb, nI_add, pk_mul]; (with_reducible refine vp_in_nI ?_ ?_) <;> first | omega | decide))); (conv => whnf))
      | (refine And.intro (by first | with_reducible assumption | exact (show cL _ _ = _ from rfl) | decide) ?_; (conv => whnf))
      | ((with_reducible refine @And.intro (_ = _) _ ?_ ?_); (· rfl); (conv => whnf))
      | ((with_reducible refine @And.intro (@LE.le Nat _ _ _) _ ?_ ?_); (· (first | exact Nat.zero_le _ | exact Nat.le_of_ble_eq_true rfl | omega)); (conv => whnf))
      | ((with_reducible refine @And.intro (@LT.lt Nat _ _ _) _ ?_ ?_); (· omega); (conv => whnf))
      | ((with_reducible refine @And.intro (∃ _, _ = _) _ ?_ ?_); (· exact ⟨_, rfl⟩); (conv => whnf))
      | ((with_reducible refine @And.intro (_ ∨ _) _ ?_ ?_); (· (first | exact Or.inl rfl | exact Or.inr rfl | exact t_b01 _ | assumption)); (conv => whnf))
      | ((with_reducible refine @And.intro (¬ (_ = _)) _ ?_ ?_); (· first | assumption | (with_reducible assumption)); (conv => whnf))
      | (refine hX _ _ _ _ _ _ ?_; (conv => whnf); fail_if_success show False)
      | (rw [c_si]; (conv => whnf))
      | (refine ⟨_, rfl, ?_⟩; (conv => whnf))
      | (refine ⟨_, _, rfl, ?_⟩; (conv => whnf))
      | (refine ⟨_, _, _, rfl, ?_⟩; (conv => whnf))
      | (refine ⟨_, _, _, _, rfl, ?_⟩; (conv => whnf))
      | fail)
    refine And.intro (fun c => ?_) (fun c => ?_) <;> (conv => whnf)
    · have : k = c_p I := Nat.le_antisymm h1 (t_kge hm c (by omega) (by omega))
      subst this
      clear ih
      repeat' (first
        | ((with_reducible refine @And.intro (vp_in _ _) _ ?_ ?_); (· (first | with_reducible assumption | ((with_reducible refine t_vin ?_); decide) | ((with_reducible refine vp_in_nI ?_ ?_) <;> first | omega | decide) | (simp (disch := omega) only [xl_n, xl_m, nI_dec, nI_sb, nI_add, pk_mul]; (with_reducible refine vp_in_nI ?_ ?_) <;> first | omega | decide))); (conv => whnf))
        | (refine And.intro (by first | with_reducible assumption | exact (show cL _ _ = _ from rfl) | decide) ?_; (conv => whnf))
        | ((with_reducible refine @And.intro (_ = _) _ ?_ ?_); (· rfl); (conv => whnf))
        | ((with_reducible refine @And.intro (@LE.le Nat _ _ _) _ ?_ ?_); (· (first | exact Nat.zero_le _ | exact Nat.le_of_ble_eq_true rfl | omega)); (conv => whnf))
        | ((with_reducible refine @And.intro (@LT.lt Nat _ _ _) _ ?_ ?_); (· omega); (conv => whnf))
        | ((with_reducible refine @And.intro (∃ _, _ = _) _ ?_ ?_); (· exact ⟨_, rfl⟩); (conv => whnf))
        | ((with_reducible refine @And.intro (_ ∨ _) _ ?_ ?_); (· (first | exact Or.inl rfl | exact Or.inr rfl | exact t_b01 _ | assumption)); (conv => whnf))
        | ((with_reducible refine @And.intro (¬ (_ = _)) _ ?_ ?_); (· first | assumption | (with_reducible assumption)); (conv => whnf))
        | (refine hX _ _ _ _ _ _ ?_; (conv => whnf); fail_if_success show False)
        | (rw [c_si]; (conv => whnf))
        | (refine ⟨_, rfl, ?_⟩; (conv => whnf))
        | (refine ⟨_, _, rfl, ?_⟩; (conv => whnf))
        | (refine ⟨_, _, _, rfl, ?_⟩; (conv => whnf))
        | (refine ⟨_, _, _, _, rfl, ?_⟩; (conv => whnf))
        | (refine And.intro (fun c => ?_) (fun c => ?_) <;> (first | (exact absurd c (by decide +kernel)) | (conv => whnf)))
        | fail)
      exact hQ
    · have hk : k < c_p I := t_klt hm c (by omega)
      have ih := ih (k + 1) (by omega) (by omega)
      rw [t_sum_s, cK_needs hk] at ih
      repeat' (first
        | ((with_reducible refine @And.intro (vp_in _ _) _ ?_ ?_); (· (first | with_reducible assumption | ((with_reducible refine t_vin ?_); decide) | ((with_reducible refine vp_in_nI ?_ ?_) <;> first | omega | decide) | (simp (disch := omega) only [xl_n, xl_m, nI_dec, nI_sb, nI_add, pk_mul]; (with_reducible refine vp_in_nI ?_ ?_) <;> first | omega | decide))); (conv => whnf))
        | (refine And.intro (by first | with_reducible assumption | exact (show cL _ _ = _ from rfl) | decide) ?_; (conv => whnf))
        | ((with_reducible refine @And.intro (_ = _) _ ?_ ?_); (· rfl); (conv => whnf))
        | ((with_reducible refine @And.intro (@LE.le Nat _ _ _) _ ?_ ?_); (· (first | exact Nat.zero_le _ | exact Nat.le_of_ble_eq_true rfl | omega)); (conv => whnf))
        | ((with_reducible refine @And.intro (@LT.lt Nat _ _ _) _ ?_ ?_); (· omega); (conv => whnf))
        | ((with_reducible refine @And.intro (∃ _, _ = _) _ ?_ ?_); (· exact ⟨_, rfl⟩); (conv => whnf))
        | ((with_reducible refine @And.intro (_ ∨ _) _ ?_ ?_); (· (first | exact Or.inl rfl | exact Or.inr rfl | exact t_b01 _ | assumption)); (conv => whnf))
        | ((with_reducible refine @And.intro (¬ (_ = _)) _ ?_ ?_); (· first | assumption | (with_reducible assumption)); (conv => whnf))
        | (refine hX _ _ _ _ _ _ ?_; (conv => whnf); fail_if_success show False)
        | (rw [c_si]; simp (disch := omega) only [xl_n, xl_m, nI_dec, nI_sb, xl_0, xl_1, cW_i, Nat.add_zero, Nat.reduceAdd, Nat.reduceMul, t_bn0, t_bn1, Classical.not_not, t_lt, nI_add, nI_1, pk_mul, nI_clamp, c_si, nI_eq, nI_leI, nM_ne, nM_ne, xm_u2_ne, xm_u2_at, reduceIte, Nat.reduceEqDiff]; (conv => whnf))
        | (refine ⟨_, rfl, ?_⟩; (conv => whnf))
        | (refine ⟨_, _, rfl, ?_⟩; (conv => whnf))
        | (refine ⟨_, _, _, rfl, ?_⟩; (conv => whnf))
        | (refine ⟨_, _, _, _, rfl, ?_⟩; (conv => whnf))
        | (refine And.intro (fun c => ?_) (fun c => ?_) <;> (first | (exact absurd c (by decide +kernel)) | (conv => whnf)))
        | fail)
      all_goals clear hX hG hQ
      all_goals simp (disch := omega) only [xl_n, xl_m, nI_dec, nI_sb, xl_0, xl_1, cW_i, Nat.add_zero, Nat.reduceAdd, Nat.reduceMul, t_bn0, t_bn1, Classical.not_not, t_lt, nI_add, nI_1, pk_mul, nI_clamp, c_si, nI_eq, nI_leI, nM_ne, nM_ne, xm_set, xm_lv0, xm_psh] at *
      all_goals simp_all [t_has]
  refine ⟨rfl, ?_⟩
  repeat' (first
    | ((with_reducible refine @And.intro (vp_in _ _) _ ?_ ?_); (· (first | with_reducible assumption | ((with_reducible refine t_vin ?_); decide) | ((with_reducible refine vp_in_nI ?_ ?_) <;> first | omega | decide) | (simp (disch := omega) only [xl_n, xl_m, nI_dec, nI_sb, nI_add, pk_mul]; (with_reducible refine vp_in_nI ?_ ?_) <;> first | omega | decide))); (conv => whnf))
    | (refine And.intro (by first | with_reducible assumption | exact (show cL _ _ = _ from rfl) | decide) ?_; (conv => whnf))
    | ((with_reducible refine @And.intro (_ = _) _ ?_ ?_); (· rfl); (conv => whnf))
    | ((with_reducible refine @And.intro (@LE.le Nat _ _ _) _ ?_ ?_); (· (first | exact Nat.zero_le _ | exact Nat.le_of_ble_eq_true rfl | omega)); (conv => whnf))
    | ((with_reducible refine @And.intro (@LT.lt Nat _ _ _) _ ?_ ?_); (· omega); (conv => whnf))
    | ((with_reducible refine @And.intro (∃ _, _ = _) _ ?_ ?_); (· exact ⟨_, rfl⟩); (conv => whnf))
    | ((with_reducible refine @And.intro (_ ∨ _) _ ?_ ?_); (· (first | exact Or.inl rfl | exact Or.inr rfl | exact t_b01 _ | assumption)); (conv => whnf))
    | ((with_reducible refine @And.intro (¬ (_ = _)) _ ?_ ?_); (· first | assumption | (with_reducible assumption)); (conv => whnf))
    | (refine hX _ _ _ _ _ _ ?_; (conv => whnf); fail_if_success show False)
    | (rw [c_si]; (conv => whnf))
    | (refine ⟨_, rfl, ?_⟩; (conv => whnf))
    | (refine ⟨_, _, rfl, ?_⟩; (conv => whnf))
    | (refine ⟨_, _, _, rfl, ?_⟩; (conv => whnf))
    | (refine ⟨_, _, _, _, rfl, ?_⟩; (conv => whnf))
    | (refine And.intro (fun c => ?_) (fun c => ?_) <;> (first | (exact absurd c (by decide +kernel)) | (conv => whnf)))
    | fail)
  exact loop 0 (Nat.zero_le _)
theorem ct_X1_needsOf : xm_Ct cI yX1_needsOf (ws_ yX1_needsOf cX1_needsOf 4 (some .int)) 1 0 0 S_X1_needsOf := xm_enter (rt := 0) (init := false) (by decide +kernel) rfl (fun h => by cases h) (Or.inl ⟨rfl, rfl⟩) (oX1_needsOf) body_X1_needsOf
theorem cv_X1_needsOf {own : String} {cc : ByteArray} {fr pc idx : Nat} (hdg : decode cc pc = .ok (.invokevirtual idx, 3)) (hl : xm_ml own idx yX1_needsOf) (hfr : 1 < fr) : xm_CallOK cI own cc fr pc (pc + 3) 2 0 0 (xm_this 0 S_X1_needsOf) := xm_callV 0 cI_good (ct_X1_needsOf) hdg hl q1624 qs40 q116 q1625 rfl rfl (by decide +kernel) hfr (by decide)
abbrev bX1_act_0 : List xE := [(.aload_n 0, 1, 0, 0, 0), (.iload_n 1, 2, 0, 0, 0), (.invokevirtual 262, 5, 0, 0, 9), (.aload_n 0, 6, 0, 0, 0), (.iload_n 2, 7, 0, 0, 0), (.ifCond .lt 12, 10, 0, 19, 0), (.iload_n 2, 11, 0, 0, 0), (.iconst 2, 12, 0, 0, 0), (.if_icmp .gt 7, 15, 0, 19, 0), (.iconst 1, 16, 0, 0, 0), (.goto 4, 19, 0, 20, 0)]
abbrev bX1_act_19 : List xE := [(.iconst 0, 20, 0, 0, 0)]
abbrev bX1_act_20 : List xE := [(.invokevirtual 160, 23, 0, 1, 9), (.aload_n 0, 24, 0, 0, 0), (.iload_n 1, 25, 0, 0, 0), (.invokevirtual 265, 28, 0, 2, 9), (.astore_n 3, 29, 0, 0, 0), (.iload_n 2, 30, 0, 0, 0), (.ifCond .ne 10, 33, 0, 40, 0), (.aload_n 3, 34, 0, 0, 0), (.getfield 269, 37, 11, 0, 0), (.goto 23, 40, 0, 60, 0)]
abbrev bX1_act_40 : List xE := [(.iload_n 2, 41, 0, 0, 0), (.iconst 1, 42, 0, 0, 0), (.if_icmp .ne 10, 45, 0, 52, 0), (.aload_n 3, 46, 0, 0, 0), (.getfield 272, 49, 11, 3, 0), (.goto 11, 52, 0, 60, 0)]
abbrev bX1_act_52 : List xE := [(.aload_n 0, 53, 0, 0, 0), (.aload_n 3, 54, 0, 0, 0), (.getfield 272, 57, 11, 3, 0), (.invokevirtual 275, 60, 0, 3, 9)]
abbrev bX1_act_60 : List xE := [(.ireturn, 61, 0, 0, 0)]
abbrev kX1_act : List (Nat × List xE) := [(0, bX1_act_0), (19, bX1_act_19), (20, bX1_act_20), (40, bX1_act_40), (52, bX1_act_52), (60, bX1_act_60)]
abbrev lX1_act : List (Nat × Nat × Nat × xS) := [(2, 1, 6, xm_this 0 S_X1_needAct), (2, 1, 6, xm_this 0 S_X1_need), (2, 0, 0, xm_this 0 S_X1_actOf), (2, 0, 0, xm_this 0 S_X1_needsOf)]
theorem oX1_act_0  : xm_okb cI RX1 cX1_act false 8 lX1_act bX1_act_0 0 := xo_0 dX1_act_0 rfl trivial (xo_0 dX1_act_1 rfl trivial (xo_c rfl (cv_X1_needAct dX1_act_2 (Or.inl q1618) (by decide)) (xo_0 dX1_act_5 rfl trivial (xo_0 dX1_act_6 rfl trivial (xo_0 dX1_act_7 rfl rfl (xo_0 dX1_act_10 rfl trivial (xo_0 dX1_act_11 rfl trivial (xo_0 dX1_act_12 rfl rfl (xo_0 dX1_act_15 rfl trivial (xo_0 dX1_act_16 rfl rfl (xo_n)))))))))))
theorem oX1_act_19  : xm_okb cI RX1 cX1_act false 8 lX1_act bX1_act_19 19 := xo_0 dX1_act_19 rfl trivial (xo_n)
theorem oX1_act_20  : xm_okb cI RX1 cX1_act false 8 lX1_act bX1_act_20 20 := xo_c rfl (cv_X1_need dX1_act_20 (Or.inl q1030) (by decide)) (xo_0 dX1_act_23 rfl trivial (xo_0 dX1_act_24 rfl trivial (xo_c rfl (cv_X1_actOf dX1_act_25 (Or.inl q822) (by decide)) (xo_0 dX1_act_28 rfl trivial (xo_0 dX1_act_29 rfl trivial (xo_0 dX1_act_30 rfl rfl (xo_0 dX1_act_33 rfl trivial (xo_0 dX1_act_34 rfl (xm_fg_of (Or.inr ⟨_, q1302⟩) (by decide) rfl (by decide) rfl rfl (Or.inl rfl) rfl) (xo_0 dX1_act_37 rfl rfl (xo_n))))))))))
theorem oX1_act_40  : xm_okb cI RX1 cX1_act false 8 lX1_act bX1_act_40 40 := xo_0 dX1_act_40 rfl trivial (xo_0 dX1_act_41 rfl trivial (xo_0 dX1_act_42 rfl rfl (xo_0 dX1_act_45 rfl trivial (xo_0 dX1_act_46 rfl (xm_fg_of (Or.inr ⟨_, q1310⟩) (by decide) rfl (by decide) rfl rfl (Or.inl rfl) rfl) (xo_0 dX1_act_49 rfl rfl (xo_n))))))
theorem oX1_act_52  : xm_okb cI RX1 cX1_act false 8 lX1_act bX1_act_52 52 := xo_0 dX1_act_52 rfl trivial (xo_0 dX1_act_53 rfl trivial (xo_0 dX1_act_54 rfl (xm_fg_of (Or.inr ⟨_, q1310⟩) (by decide) rfl (by decide) rfl rfl (Or.inl rfl) rfl) (xo_c rfl (cv_X1_needsOf dX1_act_57 (Or.inl q1622) (by decide)) (xo_n))))
theorem oX1_act_60  : xm_okb cI RX1 cX1_act false 8 lX1_act bX1_act_60 60 := xo_0 dX1_act_60 rfl trivial (xo_n)
theorem oX1_act  : ∀ q ∈ kX1_act, xm_okb cI RX1 cX1_act false 8 lX1_act q.2 q.1 := by
  intro q hq
  simp only [List.mem_cons, List.not_mem_nil, or_false] at hq
  rcases hq with rfl | rfl | rfl | rfl | rfl | rfl
  · exact oX1_act_0  
  · exact oX1_act_19  
  · exact oX1_act_20  
  · exact oX1_act_40  
  · exact oX1_act_52  
  · exact oX1_act_60  
def S_X1_act : xS := cU fun as P Z I Q QX => ∃ a b L, as = [.ref 0, .int a, .int b] ∧ c_good P Z I L ∧ g_ok (cG P I L) ∧ c_P P Z L (cG P I L) Q QX (q_act (cG P I L) a b)
theorem body_X1_act : xm_Body 4 0 2 12 [] lX1_act kX1_act S_X1_act := by
  intro X avs w Q QX hX0 hS
  have hG := xm_go [] hX0
  have hX := xm_go [] hX0
  clear hX0
  obtain ⟨P, Z, I, rfl, a, b, L, rfl, hg, hk0, hQ⟩ := hS
  have hok := hg.ok
  have hl := hg.ls
  obtain ⟨h6, hs, hc, hc2⟩ := id hl
  refine ⟨rfl, ?_⟩
  repeat' (first
    | ((with_reducible refine @And.intro (vp_in _ _) _ ?_ ?_); (· (first | with_reducible assumption | ((with_reducible refine t_vin ?_); decide) | ((with_reducible refine vp_in_nI ?_ ?_) <;> first | omega | decide) | (simp (disch := omega) only [xl_n, xl_m, nI_dec, nI_sb, nI_add, pk_mul]; (with_reducible refine vp_in_nI ?_ ?_) <;> first | omega | decide))); (conv => whnf))
    | (refine And.intro (by first | with_reducible assumption | exact (show cL _ _ = _ from rfl) | decide) ?_; (conv => whnf))
    | ((with_reducible refine @And.intro (_ = _) _ ?_ ?_); (· rfl); (conv => whnf))
    | ((with_reducible refine @And.intro (@LE.le Nat _ _ _) _ ?_ ?_); (· (first | exact Nat.zero_le _ | exact Nat.le_of_ble_eq_true rfl | omega)); (conv => whnf))
    | ((with_reducible refine @And.intro (@LT.lt Nat _ _ _) _ ?_ ?_); (· omega); (conv => whnf))
    | ((with_reducible refine @And.intro (∃ _, _ = _) _ ?_ ?_); (· exact ⟨_, rfl⟩); (conv => whnf))
    | ((with_reducible refine @And.intro (_ ∨ _) _ ?_ ?_); (· (first | exact Or.inl rfl | exact Or.inr rfl | exact t_b01 _ | assumption)); (conv => whnf))
    | ((with_reducible refine @And.intro (¬ (_ = _)) _ ?_ ?_); (· first | assumption | (with_reducible assumption)); (conv => whnf))
    | (refine hX _ _ _ _ _ _ ?_; (conv => whnf); fail_if_success show False)
    | (rw [c_si]; (conv => whnf))
    | (refine ⟨_, rfl, ?_⟩; (conv => whnf))
    | (refine ⟨_, _, rfl, ?_⟩; (conv => whnf))
    | (refine ⟨_, _, _, rfl, ?_⟩; (conv => whnf))
    | (refine ⟨_, _, _, _, rfl, ?_⟩; (conv => whnf))
    | (refine ⟨a,rfl,hs,h6,?_⟩; (conv => whnf))
    | fail)
  refine ⟨fun e => ?_, fun e x hx => ?_⟩
  · obtain ⟨p, hp, rfl⟩ := t_in_of (by omega) e
    have f : g_isA (cG P I L) (nI p) = true := e
    have ek : (nI p).toNatClampNeg = p := nI_clamp (by omega)
    obtain ⟨q1, q2, q3, q4⟩ := hg.2.2.2.1 p hp
    rw [q_act, f, g_ck_t, ek] at hQ
    (conv => whnf)
    rcases c_rc b 0 2 (A := 0) (B := Int32.ofInt 2) (by decide +kernel) (by decide +kernel) (by omega) (by omega) with ⟨n, -, hn6, rfl, e1⟩ | ⟨e1, h1⟩ | ⟨e1, h1, h2⟩
    · have q : n = 0 ∨ n = 1 ∨ n = 2 := by omega
      rw [e1, g_ck_t] at hQ
      rcases q with rfl | rfl | rfl
      all_goals
        repeat' (first
          | ((with_reducible refine @And.intro (vp_in _ _) _ ?_ ?_); (· (first | with_reducible assumption | ((with_reducible refine t_vin ?_); decide) | ((with_reducible refine vp_in_nI ?_ ?_) <;> first | omega | decide) | (simp (disch := omega) only [xl_n, xl_m, nI_dec, nI_sb, nI_add, pk_mul]; (with_reducible refine vp_in_nI ?_ ?_) <;> first | omega | decide))); (conv => whnf))
          | (refine And.intro (by first | with_reducible assumption | exact (show cL _ _ = _ from rfl) | decide) ?_; (conv => whnf))
          | ((with_reducible refine @And.intro (_ = _) _ ?_ ?_); (· rfl); (conv => whnf))
          | ((with_reducible refine @And.intro (@LE.le Nat _ _ _) _ ?_ ?_); (· (first | exact Nat.zero_le _ | exact Nat.le_of_ble_eq_true rfl | omega)); (conv => whnf))
          | ((with_reducible refine @And.intro (@LT.lt Nat _ _ _) _ ?_ ?_); (· omega); (conv => whnf))
          | ((with_reducible refine @And.intro (∃ _, _ = _) _ ?_ ?_); (· exact ⟨_, rfl⟩); (conv => whnf))
          | ((with_reducible refine @And.intro (_ ∨ _) _ ?_ ?_); (· (first | exact Or.inl rfl | exact Or.inr rfl | exact t_b01 _ | assumption)); (conv => whnf))
          | ((with_reducible refine @And.intro (¬ (_ = _)) _ ?_ ?_); (· first | assumption | (with_reducible assumption)); (conv => whnf))
          | (refine hX _ _ _ _ _ _ ?_; (conv => whnf); fail_if_success show False)
          | (rw [c_si]; (conv => whnf))
          | (refine ⟨_, rfl, ?_⟩; (conv => whnf))
          | (refine ⟨_, _, rfl, ?_⟩; (conv => whnf))
          | (refine ⟨_, _, _, rfl, ?_⟩; (conv => whnf))
          | (refine ⟨_, _, _, _, rfl, ?_⟩; (conv => whnf))
          | (refine ⟨true,rfl,?_⟩; (conv => whnf))
          | (refine ⟨false,rfl,?_⟩; (conv => whnf))
          | (refine ⟨p,rfl,hp,hl,?_⟩; (conv => whnf))
          | (rw [c_ac hp h6]; (conv => whnf))
          | (refine ⟨_,L,rfl,hok,?_⟩; (conv => whnf))
          | (refine And.intro (fun c => ?_) (fun c => ?_) <;> (first | (exact absurd c (by decide +kernel)) | (conv => whnf)))
          | fail)
      · exact c_ask hQ hg c_sp.rf (if_pos hp).symm
      · exact c_ask hQ hg c_sp.rf q3
      · refine c_ask hQ hg c_sp.rf ?_
        show g_ndo (cK I L) (I (80 + p) 3) = _
        rw [q3]
        exact g_ndo_bits hk0.2.1 hk0.1.1.2 hp
    all_goals
      repeat' (first
        | ((with_reducible refine @And.intro (vp_in _ _) _ ?_ ?_); (· (first | with_reducible assumption | ((with_reducible refine t_vin ?_); decide) | ((with_reducible refine vp_in_nI ?_ ?_) <;> first | omega | decide) | (simp (disch := omega) only [xl_n, xl_m, nI_dec, nI_sb, nI_add, pk_mul]; (with_reducible refine vp_in_nI ?_ ?_) <;> first | omega | decide))); (conv => whnf))
        | (refine And.intro (by first | with_reducible assumption | exact (show cL _ _ = _ from rfl) | decide) ?_; (conv => whnf))
        | ((with_reducible refine @And.intro (_ = _) _ ?_ ?_); (· rfl); (conv => whnf))
        | ((with_reducible refine @And.intro (@LE.le Nat _ _ _) _ ?_ ?_); (· (first | exact Nat.zero_le _ | exact Nat.le_of_ble_eq_true rfl | omega)); (conv => whnf))
        | ((with_reducible refine @And.intro (@LT.lt Nat _ _ _) _ ?_ ?_); (· omega); (conv => whnf))
        | ((with_reducible refine @And.intro (∃ _, _ = _) _ ?_ ?_); (· exact ⟨_, rfl⟩); (conv => whnf))
        | ((with_reducible refine @And.intro (_ ∨ _) _ ?_ ?_); (· (first | exact Or.inl rfl | exact Or.inr rfl | exact t_b01 _ | assumption)); (conv => whnf))
        | ((with_reducible refine @And.intro (¬ (_ = _)) _ ?_ ?_); (· first | assumption | (with_reducible assumption)); (conv => whnf))
        | (refine hX _ _ _ _ _ _ ?_; (conv => whnf); fail_if_success show False)
        | (rw [c_si]; (conv => whnf))
        | (refine ⟨_, rfl, ?_⟩; (conv => whnf))
        | (refine ⟨_, _, rfl, ?_⟩; (conv => whnf))
        | (refine ⟨_, _, _, rfl, ?_⟩; (conv => whnf))
        | (refine ⟨_, _, _, _, rfl, ?_⟩; (conv => whnf))
        | (refine ⟨true,rfl,?_⟩; (conv => whnf))
        | (refine ⟨false,rfl,?_⟩; (conv => whnf))
        | (refine And.intro (fun c => ?_) (fun c => ?_) <;> (first | (exact absurd c (by decide +kernel)) | (exact absurd c (by assumption)) | (exact False.elim (c (by assumption))) | (conv => whnf)))
        | fail)
      intro x hx
      exact c_ref1 hQ hg e1 hx n2_0
  · exact c_ref0 hQ hg e hx n1_0
theorem ct_X1_act : xm_Ct cI yX1_act (ws_ yX1_act cX1_act 4 (some .int)) 8 2 12 S_X1_act := xm_enter (rt := 0) (init := false) (by decide +kernel) rfl (fun h => by cases h) (Or.inl ⟨rfl, rfl⟩) (oX1_act) body_X1_act
theorem cv_X1_act {own : String} {cc : ByteArray} {fr pc idx : Nat} (hdg : decode cc pc = .ok (.invokevirtual idx, 3)) (hl : xm_ml own idx yX1_act) (hfr : 8 < fr) : xm_CallOK cI own cc fr pc (pc + 3) 3 2 12 (xm_this 0 S_X1_act) := xm_callV 0 cI_good (ct_X1_act) hdg hl q1615 q1616 q116 q1617 rfl rfl (by decide +kernel) hfr (by decide)
/-- fewer images -/
theorem c_imgs {P : cP} {Z : cX} {I : tI} {L : List lC} {n : Nat} (hg : c_good P Z I L) (hn : n ≤ c_im I) : c_good P Z (xm_u2 I 0 15 (nI n)) L ∧ cG P (xm_u2 I 0 15 (nI n)) L = g_imgs (cG P I L) n (gim (cG P I L)) ∧ ∀ k, k < c_im I → c_ts P Z (xm_u2 I 0 15 (nI n)) (10 + k) L ∧ cA (xm_u2 I 0 15 (nI n)) (10 + k) = cA I (10 + k) := by
  have f : ∀ b : Nat, b ≠ 0 → xm_u2 I 0 15 (nI n) b = I b := fun b hb => funext fun j => xm_u2_ne hb j
  have f0 : ∀ k : Nat, k ≠ 15 → xm_u2 I 0 15 (nI n) 0 k = I 0 k := fun k hk => by rw [xm_u2_at, if_neg hk]
  have f15 : xm_u2 I 0 15 (nI n) 0 15 = nI n := by rw [xm_u2_at, if_pos rfl]
  generalize xm_u2 I 0 15 (nI n) = J at f f0 f15
  obtain ⟨g1, g2, g3, g4, g5, g6, g7, g8, g9, g10, g11⟩ := id hg
  have ehp : c_h J = c_h I ∧ c_p J = c_p I := by
    unfold c_h c_p
    rw [f 1 (by omega)]
    exact ⟨rfl, rfl⟩
  have eok : c_ok J := by
    unfold c_ok c_h c_p at *
    rw [f 1 (by omega)]
    exact g1
  have eK : cK J L = cK I L := cK_eq (f 1 (by omega)) (fun b h1 h2 => f b (by omega)) (f0 9 (by omega)) (f0 10 (by omega))
  have eam : c_am P J = c_am P I := funext fun a => p_ic fun q => by rw [f (80 + a) (by omega)]
  have eY : cY P J = cY P I := by
    unfold cY
    rw [eam, f 33 (by omega), f 34 (by omega)]
    have e1 : (fun a => if a < P.1 then J (80 + a) 0 else nI 0) = (fun a => if a < P.1 then I (80 + a) 0 else nI 0) := funext fun a => p_ic fun q => by rw [f (80 + a) (by omega)]
    have e2 : (fun a i => if i < c_am P I a then (J (90 + a) i).toNatClampNeg else 0) = (fun a i => if i < c_am P I a then (I (90 + a) i).toNatClampNeg else 0) := funext fun a => funext fun i => p_ic fun q => by rw [f (90 + a) (by omega)]
    rw [e1, e2]
  have eA : ∀ r : Nat, 0 < r → cA J r = cA I r := fun r hr => cA_eq (fun k hk => f _ (by omega)) (by rw [f r (by omega)])
  have td : ∀ r : Nat, 0 < r → c_td I r → c_td J r := fun r hr ht => ⟨fun k hk => by
    rw [ehp.1] at hk
    rw [eA r hr, f (10 * r) (by omega), f 31 (by omega), f r (by omega)]
    exact ht.1 k hk, by rw [eA r hr]; exact ht.2⟩
  have eim : c_im J = n := by
    unfold c_im
    rw [f15, nI_clamp (by omega)]
  have el : c_l J = c_l I := by unfold c_l; rw [f0 11 (by omega)]
  have et : c_tp J = c_tp I := by unfold c_tp; rw [f0 13 (by omega)]
  refine ⟨⟨eok, g2.eq fun a ha => f a (by omega), ⟨g3.1, by rw [f 40 (by omega)]; exact g3.2.1, g3.2.2⟩, fun a ha => ?_, by rw [f0 9 (by omega)]; exact g5, ⟨by rw [eim]; exact f15, by rw [eim]; omega, g6.2.2⟩, ?_, by rw [et, f0 13 (by omega)]; exact g8, td 5 (by omega) g9, td 6 (by omega) g10, fun k hk => ?_⟩, ?_, fun k hk => ⟨⟨(hg.img hk).1, eok, (td _ (by omega) (g11 k hk)).1, (td _ (by omega) (g11 k hk)).2, g2.eq fun a ha => f a (by omega)⟩, eA _ (by omega)⟩⟩
  · have eb : g_bits (cG P J L) a = g_bits (cG P I L) a := g_bits_x eY
    rw [eam, f (80 + a) (by omega), f (90 + a) (by omega), eb, ehp.2]
    exact g4 a ha
  · unfold c_lnok
    rw [el, f0 11 (by omega), ehp.1, ehp.2, f 3 (by omega)]
    exact g7
  · rw [eim] at hk
    exact td _ (by omega) (g11 k (by omega))
  · have eb : c_bT J = c_bT I := by
      unfold c_bT
      rw [f 37 (by omega), f 38 (by omega)]
    unfold cG g_imgs g_setN
    rw [eK, eY]
    unfold cN
    rw [eb, eim, el, et, f 3 (by omega), f 16 (by omega), f 4 (by omega), f0 14 (by omega), f 5 (by omega), f 6 (by omega), eA 5 (by omega), eA 6 (by omega)]
    have e : (fun k => if k < n then cA J (10 + k) else c_bT I) = (fun k => if k < n then gim (cG P I L) k else c_bT I) := funext fun k => p_ic fun q => by
      rw [eA _ (by omega)]
      exact (if_pos (show k < c_im I by omega)).symm
    rw [e]
    rfl
abbrev bX1_restore_0 : List xE := [(.aload_n 0, 1, 0, 0, 0), (.getfield 107, 4, 0, 15, 0), (.ifCond .ne 5, 7, 0, 9, 0), (.iconst (-1), 8, 0, 0, 0), (.ireturn, 9, 0, 0, 0)]
abbrev bX1_restore_9 : List xE := [(.aload_n 0, 10, 0, 0, 0), (.dup, 11, 0, 0, 0), (.getfield 107, 14, 0, 15, 0), (.iconst 1, 15, 0, 0, 0), (.isub, 16, 0, 0, 0), (.putfield 107, 19, 0, 15, 0), (.aload_n 0, 20, 0, 0, 0), (.getfield 58, 23, 0, 5, 1), (.aload_n 0, 24, 0, 0, 0), (.getfield 68, 27, 0, 8, 1), (.aload_n 0, 28, 0, 0, 0), (.getfield 107, 31, 0, 15, 0), (.aaload, 32, 0, 0, 0), (.invokevirtual 110, 35, 0, 0, 9), (.pop, 36, 0, 0, 0), (.aload_n 0, 37, 0, 0, 0), (.invokevirtual 101, 40, 0, 1, 9), (.aload_n 0, 41, 0, 0, 0), (.getfield 107, 44, 0, 15, 0), (.ireturn, 45, 0, 0, 0)]
abbrev kX1_restore : List (Nat × List xE) := [(0, bX1_restore_0), (9, bX1_restore_9)]
abbrev lX1_restore : List (Nat × Nat × Nat × xS) := [(2, 0, 0, xm_this 7 S_X10_becomes), (1, 0, 0, xm_this 0 S_X1_keepsBase)]
theorem oX1_restore_0  : xm_okb cI RX1 cX1_restore false 4 lX1_restore bX1_restore_0 0 := xo_0 dX1_restore_0 rfl trivial (xo_0 dX1_restore_1 rfl (xm_fg_of (Or.inl q734) (by decide) rfl (by decide) rfl rfl (Or.inl rfl) rfl) (xo_0 dX1_restore_4 rfl rfl (xo_0 dX1_restore_7 rfl trivial (xo_0 dX1_restore_8 rfl trivial (xo_n)))))
theorem oX1_restore_9  : xm_okb cI RX1 cX1_restore false 4 lX1_restore bX1_restore_9 9 := xo_0 dX1_restore_9 rfl trivial (xo_0 dX1_restore_10 rfl trivial (xo_0 dX1_restore_11 rfl (xm_fg_of (Or.inl q734) (by decide) rfl (by decide) rfl rfl (Or.inl rfl) rfl) (xo_0 dX1_restore_14 rfl trivial (xo_0 dX1_restore_15 rfl trivial (xo_0 dX1_restore_16 rfl (xm_fp_of (xm_fg_of (Or.inl q734) (by decide) rfl (by decide) rfl rfl (Or.inl rfl) rfl) (by decide) rfl (Or.inl ⟨rfl, rfl⟩) rfl) (xo_0 dX1_restore_19 rfl trivial (xo_1 dX1_restore_20 rfl (xm_fg_of (Or.inl q724) (by decide) rfl (by decide) rfl rfl (Or.inl rfl) rfl) (xo_0 dX1_restore_23 rfl trivial (xo_1 dX1_restore_24 rfl (xm_fg_of (Or.inl q727) (by decide) rfl (by decide) rfl rfl (Or.inl rfl) rfl) (xo_0 dX1_restore_27 rfl trivial (xo_0 dX1_restore_28 rfl (xm_fg_of (Or.inl q734) (by decide) rfl (by decide) rfl rfl (Or.inl rfl) rfl) (xo_0 dX1_restore_31 rfl trivial (xo_c rfl (cv_X10_becomes dX1_restore_32 (Or.inl q711) (by decide)) (xo_0 dX1_restore_35 rfl trivial (xo_0 dX1_restore_36 rfl trivial (xo_c rfl (cv_X1_keepsBase dX1_restore_37 (Or.inl q707) (by decide)) (xo_0 dX1_restore_40 rfl trivial (xo_0 dX1_restore_41 rfl (xm_fg_of (Or.inl q734) (by decide) rfl (by decide) rfl rfl (Or.inl rfl) rfl) (xo_0 dX1_restore_44 rfl trivial (xo_n))))))))))))))))))))
theorem oX1_restore  : ∀ q ∈ kX1_restore, xm_okb cI RX1 cX1_restore false 4 lX1_restore q.2 q.1 := by
  intro q hq
  simp only [List.mem_cons, List.not_mem_nil, or_false] at hq
  rcases hq with rfl | rfl
  · exact oX1_restore_0  
  · exact oX1_restore_9  
def S_X1_restore : xS := cU fun as P Z I Q QX => ∃ L, as = [.ref 0] ∧ c_good P Z I L ∧ c_P P Z L (cG P I L) Q QX (q_restore (cG P I L))
theorem body_X1_restore : xm_Body 1 0 0 0 [] lX1_restore kX1_restore S_X1_restore := by
  intro X avs w Q QX hX0 hS
  have hG := xm_go [] hX0
  have hX := xm_go [] hX0
  clear hX0
  obtain ⟨P, Z, I, rfl, L, rfl, hg, hQ⟩ := hS
  have hi := hg.2.2.2.2.2.1
  have en : gimn (cG P I L) = c_im I := rfl
  rw [q_restore, en] at hQ
  refine ⟨rfl, ?_⟩
  repeat' (first
    | ((with_reducible refine @And.intro (vp_in _ _) _ ?_ ?_); (· (first | with_reducible assumption | ((with_reducible refine t_vin ?_); decide) | ((with_reducible refine vp_in_nI ?_ ?_) <;> first | omega | decide) | (simp (disch := omega) only [xl_n, xl_m, nI_dec, nI_sb, nI_add, pk_mul]; (with_reducible refine vp_in_nI ?_ ?_) <;> first | omega | decide))); (conv => whnf))
    | (refine And.intro (by first | with_reducible assumption | exact (show cL _ _ = _ from rfl) | decide) ?_; (conv => whnf))
    | ((with_reducible refine @And.intro (_ = _) _ ?_ ?_); (· rfl); (conv => whnf))
    | ((with_reducible refine @And.intro (@LE.le Nat _ _ _) _ ?_ ?_); (· (first | exact Nat.zero_le _ | exact Nat.le_of_ble_eq_true rfl | omega)); (conv => whnf))
    | ((with_reducible refine @And.intro (@LT.lt Nat _ _ _) _ ?_ ?_); (· omega); (conv => whnf))
    | ((with_reducible refine @And.intro (∃ _, _ = _) _ ?_ ?_); (· exact ⟨_, rfl⟩); (conv => whnf))
    | ((with_reducible refine @And.intro (_ ∨ _) _ ?_ ?_); (· (first | exact Or.inl rfl | exact Or.inr rfl | exact t_b01 _ | assumption)); (conv => whnf))
    | ((with_reducible refine @And.intro (¬ (_ = _)) _ ?_ ?_); (· first | assumption | (with_reducible assumption)); (conv => whnf))
    | (refine hX _ _ _ _ _ _ ?_; (conv => whnf); fail_if_success show False)
    | (rw [c_si]; (conv => whnf))
    | (refine ⟨_, rfl, ?_⟩; (conv => whnf))
    | (refine ⟨_, _, rfl, ?_⟩; (conv => whnf))
    | (refine ⟨_, _, _, rfl, ?_⟩; (conv => whnf))
    | (refine ⟨_, _, _, _, rfl, ?_⟩; (conv => whnf))
    | fail)
  refine And.intro (fun c => ?_) (fun c => ?_) <;> (conv => whnf)
  · have h3 : c_im I ≠ 0 := fun e => c (by
      show I 0 15 = 0
      rw [hi.1, e]
      rfl)
    rw [if_neg h3] at hQ
    obtain ⟨n, hn⟩ : ∃ n, c_im I = n + 1 := ⟨c_im I - 1, by omega⟩
    rw [hn, Nat.add_sub_cancel] at hQ
    have i3 : I 0 15 = nI (n + 1) := by rw [hi.1, hn]
    obtain ⟨hg1, eG, hts⟩ := c_imgs (n := n) hg (by omega)
    obtain ⟨ht, eA⟩ := hts n (by omega)
    have e15 : xm_u2 I 0 15 (nI n) 0 15 = nI n := by rw [xm_u2_at, if_pos rfl]
    have hn3 : n < P.2.2.1 := by omega
    have e8 : xm_fld (cW P Z (xm_u2 I 0 15 (nI n))) 8 ((cW P Z (xm_u2 I 0 15 (nI n))).2.1 0 15).toNatClampNeg 1 = .ref (10 + n) := by
      show xm_fld (cW P Z (xm_u2 I 0 15 (nI n))) 8 (xm_u2 I 0 15 (nI n) 0 15).toNatClampNeg 1 = _
      rw [e15, nI_clamp (by omega)]
      show va_rf (match Nat.blt n P.2.2.1 with | true => some (10 + n) | false => none) = _
      rw [c_blt hn3]
      rfl
    have ev : vp_in ((cW P Z (xm_u2 I 0 15 (nI n))).2.1 0 15) 3 := by
      show vp_in (xm_u2 I 0 15 (nI n) 0 15) 3
      rw [e15]
      exact vp_in_nI (by omega) (by decide)
    have i5 : I 0 15 - nI 1 = nI n := by rw [i3, nI_sb]
    have h5 := c_5 (P := P)
    repeat' (first
      | ((with_reducible refine @And.intro (vp_in _ _) _ ?_ ?_); (· (first | with_reducible assumption | ((with_reducible refine t_vin ?_); decide) | ((with_reducible refine vp_in_nI ?_ ?_) <;> first | omega | decide) | (simp (disch := omega) only [xl_n, xl_m, nI_dec, nI_sb, nI_add, pk_mul]; (with_reducible refine vp_in_nI ?_ ?_) <;> first | omega | decide))); (conv => whnf))
      | (refine And.intro (by first | with_reducible assumption | exact (show cL _ _ = _ from rfl) | decide) ?_; (conv => whnf))
      | ((with_reducible refine @And.intro (_ = _) _ ?_ ?_); (· rfl); (conv => whnf))
      | ((with_reducible refine @And.intro (@LE.le Nat _ _ _) _ ?_ ?_); (· (first | exact Nat.zero_le _ | exact Nat.le_of_ble_eq_true rfl | omega)); (conv => whnf))
      | ((with_reducible refine @And.intro (@LT.lt Nat _ _ _) _ ?_ ?_); (· omega); (conv => whnf))
      | ((with_reducible refine @And.intro (∃ _, _ = _) _ ?_ ?_); (· exact ⟨_, rfl⟩); (conv => whnf))
      | ((with_reducible refine @And.intro (_ ∨ _) _ ?_ ?_); (· (first | exact Or.inl rfl | exact Or.inr rfl | exact t_b01 _ | assumption)); (conv => whnf))
      | ((with_reducible refine @And.intro (¬ (_ = _)) _ ?_ ?_); (· first | assumption | (with_reducible assumption)); (conv => whnf))
      | (refine hX _ _ _ _ _ _ ?_; (conv => whnf); fail_if_success show False)
      | (rw [c_si]; simp (disch := omega) only [xl_n, xl_m, nI_dec, nI_sb, xl_0, xl_1, cW_i, Nat.add_zero, Nat.reduceAdd, Nat.reduceMul, t_bn0, t_bn1, Classical.not_not, t_lt, nI_add, nI_1, pk_mul, nI_clamp, c_si, nI_eq, nI_leI, nM_ne, nM_ne, xm_u2_ne, xm_u2_at, reduceIte, Nat.reduceEqDiff]; (conv => whnf))
      | (refine ⟨_, rfl, ?_⟩; (conv => whnf))
      | (refine ⟨_, _, rfl, ?_⟩; (conv => whnf))
      | (refine ⟨_, _, _, rfl, ?_⟩; (conv => whnf))
      | (refine ⟨_, _, _, _, rfl, ?_⟩; (conv => whnf))
      | (rw [i5]; (conv => whnf))
      | (refine ⟨ev,?_⟩; (conv => whnf))
      | (refine ⟨5,10+n,L,congrArg (fun z => [Value.ref 5,z]) e8,h5,ht,?_⟩; (conv => whnf))
      | fail)
    intro J h1 t1 e1
    (conv => whnf)
    repeat' (first
      | ((with_reducible refine @And.intro (vp_in _ _) _ ?_ ?_); (· (first | with_reducible assumption | ((with_reducible refine t_vin ?_); decide) | ((with_reducible refine vp_in_nI ?_ ?_) <;> first | omega | decide) | (simp (disch := omega) only [xl_n, xl_m, nI_dec, nI_sb, nI_add, pk_mul]; (with_reducible refine vp_in_nI ?_ ?_) <;> first | omega | decide))); (conv => whnf))
      | (refine And.intro (by first | with_reducible assumption | exact (show cL _ _ = _ from rfl) | decide) ?_; (conv => whnf))
      | ((with_reducible refine @And.intro (_ = _) _ ?_ ?_); (· rfl); (conv => whnf))
      | ((with_reducible refine @And.intro (@LE.le Nat _ _ _) _ ?_ ?_); (· (first | exact Nat.zero_le _ | exact Nat.le_of_ble_eq_true rfl | omega)); (conv => whnf))
      | ((with_reducible refine @And.intro (@LT.lt Nat _ _ _) _ ?_ ?_); (· omega); (conv => whnf))
      | ((with_reducible refine @And.intro (∃ _, _ = _) _ ?_ ?_); (· exact ⟨_, rfl⟩); (conv => whnf))
      | ((with_reducible refine @And.intro (_ ∨ _) _ ?_ ?_); (· (first | exact Or.inl rfl | exact Or.inr rfl | exact t_b01 _ | assumption)); (conv => whnf))
      | ((with_reducible refine @And.intro (¬ (_ = _)) _ ?_ ?_); (· first | assumption | (with_reducible assumption)); (conv => whnf))
      | (refine hX _ _ _ _ _ _ ?_; (conv => whnf); fail_if_success show False)
      | (rw [c_si]; (conv => whnf))
      | (refine ⟨_, rfl, ?_⟩; (conv => whnf))
      | (refine ⟨_, _, rfl, ?_⟩; (conv => whnf))
      | (refine ⟨_, _, _, rfl, ?_⟩; (conv => whnf))
      | (refine ⟨_, _, _, _, rfl, ?_⟩; (conv => whnf))
      | (refine ⟨L,rfl,t1,?_⟩; (conv => whnf))
      | fail)
    intro K h2 t2 e2
    (conv => whnf)
    repeat' (first
      | ((with_reducible refine @And.intro (vp_in _ _) _ ?_ ?_); (· (first | with_reducible assumption | ((with_reducible refine t_vin ?_); decide) | ((with_reducible refine vp_in_nI ?_ ?_) <;> first | omega | decide) | (simp (disch := omega) only [xl_n, xl_m, nI_dec, nI_sb, nI_add, pk_mul]; (with_reducible refine vp_in_nI ?_ ?_) <;> first | omega | decide))); (conv => whnf))
      | (refine And.intro (by first | with_reducible assumption | exact (show cL _ _ = _ from rfl) | decide) ?_; (conv => whnf))
      | ((with_reducible refine @And.intro (_ = _) _ ?_ ?_); (· rfl); (conv => whnf))
      | ((with_reducible refine @And.intro (@LE.le Nat _ _ _) _ ?_ ?_); (· (first | exact Nat.zero_le _ | exact Nat.le_of_ble_eq_true rfl | omega)); (conv => whnf))
      | ((with_reducible refine @And.intro (@LT.lt Nat _ _ _) _ ?_ ?_); (· omega); (conv => whnf))
      | ((with_reducible refine @And.intro (∃ _, _ = _) _ ?_ ?_); (· exact ⟨_, rfl⟩); (conv => whnf))
      | ((with_reducible refine @And.intro (_ ∨ _) _ ?_ ?_); (· (first | exact Or.inl rfl | exact Or.inr rfl | exact t_b01 _ | assumption)); (conv => whnf))
      | ((with_reducible refine @And.intro (¬ (_ = _)) _ ?_ ?_); (· first | assumption | (with_reducible assumption)); (conv => whnf))
      | (refine hX _ _ _ _ _ _ ?_; (conv => whnf); fail_if_success show False)
      | (rw [c_si]; (conv => whnf))
      | (refine ⟨_, rfl, ?_⟩; (conv => whnf))
      | (refine ⟨_, _, rfl, ?_⟩; (conv => whnf))
      | (refine ⟨_, _, _, rfl, ?_⟩; (conv => whnf))
      | (refine ⟨_, _, _, _, rfl, ?_⟩; (conv => whnf))
      | fail)
    obtain ⟨k1, k2⟩ := c_set hg1 h1 t1.td h2 t2 e2
    have e0 : K 0 15 = nI n := by
      rw [h2 0 (by omega) (by omega) (by omega), h1 0 (by omega) (by omega) (by omega)]
      exact e15
    have fin := hQ.1 K k1 (by
      rw [k2, e1, eA, eG]
      have : gim (cG P I L) n = cA I (10 + n) := if_pos (show n < c_im I by omega)
      rw [← this]) rfl
    rw [← e0] at fin
    exact fin
  · have h3 : c_im I = 0 := by
      rcases Nat.eq_zero_or_pos (c_im I) with q | q
      · exact q
      · exact absurd (show I 0 15 = 0 from Classical.not_not.mp c) (by
          rw [hi.1, xl_0, nI_eq (by omega) (by omega)]
          omega)
    rw [if_pos h3] at hQ
    repeat' (first
      | ((with_reducible refine @And.intro (vp_in _ _) _ ?_ ?_); (· (first | with_reducible assumption | ((with_reducible refine t_vin ?_); decide) | ((with_reducible refine vp_in_nI ?_ ?_) <;> first | omega | decide) | (simp (disch := omega) only [xl_n, xl_m, nI_dec, nI_sb, nI_add, pk_mul]; (with_reducible refine vp_in_nI ?_ ?_) <;> first | omega | decide))); (conv => whnf))
      | (refine And.intro (by first | with_reducible assumption | exact (show cL _ _ = _ from rfl) | decide) ?_; (conv => whnf))
      | ((with_reducible refine @And.intro (_ = _) _ ?_ ?_); (· rfl); (conv => whnf))
      | ((with_reducible refine @And.intro (@LE.le Nat _ _ _) _ ?_ ?_); (· (first | exact Nat.zero_le _ | exact Nat.le_of_ble_eq_true rfl | omega)); (conv => whnf))
      | ((with_reducible refine @And.intro (@LT.lt Nat _ _ _) _ ?_ ?_); (· omega); (conv => whnf))
      | ((with_reducible refine @And.intro (∃ _, _ = _) _ ?_ ?_); (· exact ⟨_, rfl⟩); (conv => whnf))
      | ((with_reducible refine @And.intro (_ ∨ _) _ ?_ ?_); (· (first | exact Or.inl rfl | exact Or.inr rfl | exact t_b01 _ | assumption)); (conv => whnf))
      | ((with_reducible refine @And.intro (¬ (_ = _)) _ ?_ ?_); (· first | assumption | (with_reducible assumption)); (conv => whnf))
      | (refine hX _ _ _ _ _ _ ?_; (conv => whnf); fail_if_success show False)
      | (rw [c_si]; (conv => whnf))
      | (refine ⟨_, rfl, ?_⟩; (conv => whnf))
      | (refine ⟨_, _, rfl, ?_⟩; (conv => whnf))
      | (refine ⟨_, _, _, rfl, ?_⟩; (conv => whnf))
      | (refine ⟨_, _, _, _, rfl, ?_⟩; (conv => whnf))
      | (refine And.intro (fun c => ?_) (fun c => ?_) <;> (first | (exact absurd c (by decide +kernel)) | (conv => whnf)))
      | fail)
    exact c_ask hQ hg c_sp.rf xl_m
theorem ct_X1_restore : xm_Ct cI yX1_restore (ws_ yX1_restore cX1_restore 1 (some .int)) 4 0 0 S_X1_restore := xm_enter (rt := 0) (init := false) (by decide +kernel) rfl (fun h => by cases h) (Or.inl ⟨rfl, rfl⟩) (oX1_restore) body_X1_restore
theorem cv_X1_restore {own : String} {cc : ByteArray} {fr pc idx : Nat} (hdg : decode cc pc = .ok (.invokevirtual idx, 3)) (hl : xm_ml own idx yX1_restore) (hfr : 4 < fr) : xm_CallOK cI own cc fr pc (pc + 3) 1 0 0 (xm_this 0 S_X1_restore) := xm_callV 0 cI_good (ct_X1_restore) hdg hl q1010 q1011 q116 q1012 rfl rfl (by decide +kernel) hfr (by decide)
