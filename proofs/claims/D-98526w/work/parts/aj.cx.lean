/-! ===== the component: who is silent ===== -/
set_option maxRecDepth 100000
def g_sil (G : gG) (x : Int32) : Bool := t_ex (gn (gGK G)) fun h => t_has x h && !decide (gsil G h &&& x = nI 0)
theorem g_sil_0 {G : gG} {x : Int32} : g_mutes G (nI 0) x (gn (gGK G)) = g_sil G x := by
  unfold g_mutes g_sil
  rw [show nI 0 ||| x = x from Int32.zero_or]
abbrev bX1_isSilent_0 : List xE := [(.iconst 0, 1, 0, 0, 0), (.istore_n 2, 2, 0, 0, 0)]
abbrev bX1_isSilent_2 : List xE := [(.iload_n 2, 3, 0, 0, 0), (.aload_n 0, 4, 0, 0, 0), (.getfield 31, 7, 0, 0, 1), (.getfield 126, 10, 1, 11, 0), (.if_icmp .ge 34, 13, 0, 44, 0), (.iload_n 1, 14, 0, 0, 0), (.iload_n 2, 15, 0, 0, 0), (.ishr, 16, 0, 0, 0), (.iconst 1, 17, 0, 0, 0), (.iand, 18, 0, 0, 0), (.iconst 1, 19, 0, 0, 0), (.if_icmp .ne 19, 22, 0, 38, 0), (.aload_n 0, 23, 0, 0, 0), (.getfield 31, 26, 0, 0, 1), (.getfield 322, 29, 1, 3, 1), (.iload_n 2, 30, 0, 0, 0), (.iaload, 31, 0, 0, 0), (.iload_n 1, 32, 0, 0, 0), (.iand, 33, 0, 0, 0), (.ifCond .eq 5, 36, 0, 38, 0), (.iconst 1, 37, 0, 0, 0), (.ireturn, 38, 0, 0, 0)]
abbrev bX1_isSilent_38 : List xE := [(.iinc 2 1, 41, 0, 0, 0), (.goto (-39), 44, 0, 2, 0)]
abbrev bX1_isSilent_44 : List xE := [(.iconst 0, 45, 0, 0, 0), (.ireturn, 46, 0, 0, 0)]
abbrev kX1_isSilent : List (Nat × List xE) := [(0, bX1_isSilent_0), (2, bX1_isSilent_2), (38, bX1_isSilent_38), (44, bX1_isSilent_44)]
abbrev lX1_isSilent : List (Nat × Nat × Nat × xS) := []
theorem oX1_isSilent_0  : xm_okb cI RX1 cX1_isSilent false 1 lX1_isSilent bX1_isSilent_0 0 := xo_0 dX1_isSilent_0 rfl trivial (xo_0 dX1_isSilent_1 rfl trivial (xo_n))
theorem oX1_isSilent_2  : xm_okb cI RX1 cX1_isSilent false 1 lX1_isSilent bX1_isSilent_2 2 := xo_0 dX1_isSilent_2 rfl trivial (xo_0 dX1_isSilent_3 rfl trivial (xo_1 dX1_isSilent_4 rfl (xm_fg_of (Or.inl q716) (by decide) rfl (by decide) rfl rfl (Or.inl rfl) rfl) (xo_0 dX1_isSilent_7 rfl (xm_fg_of (Or.inr ⟨_, q556⟩) (by decide) rfl (by decide) rfl rfl (Or.inl rfl) rfl) (xo_0 dX1_isSilent_10 rfl rfl (xo_0 dX1_isSilent_13 rfl trivial (xo_0 dX1_isSilent_14 rfl trivial (xo_0 dX1_isSilent_15 rfl trivial (xo_0 dX1_isSilent_16 rfl trivial (xo_0 dX1_isSilent_17 rfl trivial (xo_0 dX1_isSilent_18 rfl trivial (xo_0 dX1_isSilent_19 rfl rfl (xo_0 dX1_isSilent_22 rfl trivial (xo_1 dX1_isSilent_23 rfl (xm_fg_of (Or.inl q716) (by decide) rfl (by decide) rfl rfl (Or.inl rfl) rfl) (xo_1 dX1_isSilent_26 rfl (xm_fg_of (Or.inr ⟨_, q528⟩) (by decide) rfl (by decide) rfl rfl (Or.inl rfl) rfl) (xo_0 dX1_isSilent_29 rfl trivial (xo_0 dX1_isSilent_30 rfl trivial (xo_0 dX1_isSilent_31 rfl trivial (xo_0 dX1_isSilent_32 rfl trivial (xo_0 dX1_isSilent_33 rfl rfl (xo_0 dX1_isSilent_36 rfl trivial (xo_0 dX1_isSilent_37 rfl trivial (xo_n))))))))))))))))))))))
theorem oX1_isSilent_38  : xm_okb cI RX1 cX1_isSilent false 1 lX1_isSilent bX1_isSilent_38 38 := xo_0 dX1_isSilent_38 rfl trivial (xo_0 dX1_isSilent_41 rfl rfl (xo_n))
theorem oX1_isSilent_44  : xm_okb cI RX1 cX1_isSilent false 1 lX1_isSilent bX1_isSilent_44 44 := xo_0 dX1_isSilent_44 rfl trivial (xo_0 dX1_isSilent_45 rfl trivial (xo_n))
theorem oX1_isSilent  : ∀ q ∈ kX1_isSilent, xm_okb cI RX1 cX1_isSilent false 1 lX1_isSilent q.2 q.1 := by
  intro q hq
  simp only [List.mem_cons, List.not_mem_nil, or_false] at hq
  rcases hq with rfl | rfl | rfl | rfl
  · exact oX1_isSilent_0  
  · exact oX1_isSilent_2  
  · exact oX1_isSilent_38  
  · exact oX1_isSilent_44  
def S_X1_isSilent : xS := cU fun as P Z I Q QX => ∃ x L, as = [.ref 0, .int x] ∧ c_ok I ∧ Q (some (.int (t_b (g_sil (cG P I L) x)))) I
theorem body_X1_isSilent : xm_Body 3 1 0 0 [] lX1_isSilent kX1_isSilent S_X1_isSilent := by
  intro X avs w Q QX hX0 hS
  have hG := xm_go [] hX0
  have hX := xm_go [2, 38] hX0
  clear hX0
  obtain ⟨P, Z, I, rfl, x, L, rfl, hok, hQ⟩ := hS
  obtain ⟨hn, h9, hm, h8⟩ := id hok
  have loop : ∀ k, k ≤ c_h I → t_ex k (fun h => t_has x h && !decide (gsil (cG P I L) h &&& x = nI 0)) = false → X 2 [some (.ref 0), some (.int x), some (.int (nI k))] [] (cW P Z I) 0 0 := by
    refine t_for fun k h1 ih hf => ?_
    have ih := fun q => ih (k + 1) (by omega) q
    have x38 : k < c_h I → (t_has x k && !decide (gsil (cG P I L) k &&& x = nI 0)) = false → X 38 [some (.ref 0), some (.int x), some (.int (nI k))] [] (cW P Z I) 0 0 := fun hk q => by
      have := ih (by omega) (t_ex_f hf q)
      clear ih
      refine hG _ _ _ _ _ _ ?_
      (conv => whnf)
      repeat' (first
        | ((with_reducible refine @And.intro (vp_in _ _) _ ?_ ?_); (· (first | with_reducible assumption | ((with_reducible refine t_vin ?_); decide) | ((with_reducible refine vp_in_nI ?_ ?_) <;> first | omega | decide) | (simp (disch := omega) only [xl_n, xl_m, nI_dec, nI_sb, nI_add, pk_mul]; (with_reducible refine vp_in_nI ?_ ?_) <;> first | omega | decide))); (conv => whnf))
        | (refine And.intro (by first | with_reducible assumption | exact (show cL _ _ = _ from rfl) | decide) ?_; (conv => whnf))
        | ((with_reducible refine @And.intro (_ = _) _ ?_ ?_); (· rfl); (conv => whnf))
        | ((with_reducible refine @And.intro (@LE.le Nat _ _ _) _ ?_ ?_); (· (first | exact Nat.zero_le _ | exact Nat.le_of_ble_eq_true rfl | omega)); (conv => whnf))
        | ((with_reducible refine @And.intro (@LT.lt Nat _ _ _) _ ?_ ?_); (· omega); (conv => whnf))
        | ((with_reducible refine @And.intro (∃ _, _ = _) _ ?_ ?_); (· exact ⟨_, rfl⟩); (conv => whnf))
        | ((with_reducible refine @And.intro (_ ∨ _) _ ?_ ?_); (· (first | exact Or.inl rfl | exact Or.inr rfl | exact t_b01 _ | assumption)); (conv => whnf))
        | ((with_reducible refine @And.intro (¬ (_ = _)) _ ?_ ?_); (· first | assumption | (with_reducible assumption)); (conv => whnf))
        | (refine hX _ _ _ _ _ _ ?_; (conv => whnf); fail_if_success show False)
        | (rw [c_si]; (conv => whnf))
        | (refine ⟨_, rfl, ?_⟩; (conv => whnf))
        | (refine ⟨_, _, rfl, ?_⟩; (conv => whnf))
        | (refine ⟨_, _, _, rfl, ?_⟩; (conv => whnf))
        | (refine ⟨_, _, _, _, rfl, ?_⟩; (conv => whnf))
        | (refine And.intro (fun c => ?_) (fun c => ?_) <;> (first | (exact absurd c (by decide +kernel)) | (conv => whnf)))
        | fail)
      clear hX hG hQ
      simp (disch := omega) only [xl_n, xl_m, nI_dec, nI_sb, xl_0, xl_1, cW_i, Nat.add_zero, Nat.reduceAdd, Nat.reduceMul, t_bn0, t_bn1, Classical.not_not, t_lt, nI_add, nI_1, pk_mul, nI_clamp, c_si, nI_eq, nI_leI, nM_ne, nM_ne, xm_set] at *
      exact this
    clear ih
    refine hG _ _ _ _ _ _ ?_
    (conv => whnf)
    repeat' (first
      | ((with_reducible refine @And.intro (vp_in _ _) _ ?_ ?_); (· (first | with_reducible assumption | ((with_reducible refine t_vin ?_); decide) | ((with_reducible refine vp_in_nI ?_ ?_) <;> first | omega | decide) | (simp (disch := omega) only [xl_n, xl_m, nI_dec, nI_sb, nI_add, pk_mul]; (with_reducible refine vp_in_nI ?_ ?_) <;> first | omega | decide))); (conv => whnf))
      | (refine And.intro (by first | with_reducible assumption | exact (show cL _ _ = _ from rfl) | decide) ?_; (conv => whnf))
      | ((with_reducible refine @And.intro (_ = _) _ ?_ ?_); (· rfl); (conv => whnf))
      | ((with_reducible refine @And.intro (@LE.le Nat _ _ _) _ ?_ ?_); (· (first | exact Nat.zero_le _ | exact Nat.le_of_ble_eq_true rfl | omega)); (conv => whnf))
      | ((with_reducible refine @And.intro (@LT.lt Nat _ _ _) _ ?_ ?_); (· omega); (conv => whnf))
      | ((with_reducible refine @And.intro (∃ _, _ = _) _ ?_ ?_); (· exact ⟨_, rfl⟩); (conv => whnf))
      | ((with_reducible refine @And.intro (_ ∨ _) _ ?_ ?_); (· (first | exact Or.inl rfl | exact Or.inr rfl | exact t_b01 _ | assumption)); (conv => whnf))
      | ((with_reducible refine @And.intro (¬ (_ = _)) _ ?_ ?_); (· first | assumption | (with_reducible assumption)); (conv => whnf))
      | (refine hX _ _ _ _ _ _ ?_; (conv => whnf); fail_if_success show False)
      | (rw [c_si]; (conv => whnf))
      | (refine ⟨_, rfl, ?_⟩; (conv => whnf))
      | (refine ⟨_, _, rfl, ?_⟩; (conv => whnf))
      | (refine ⟨_, _, _, rfl, ?_⟩; (conv => whnf))
      | (refine ⟨_, _, _, _, rfl, ?_⟩; (conv => whnf))
      | fail)
    refine And.intro (fun c => ?_) (fun c => ?_) <;> (conv => whnf)
    · have : k = c_h I := Nat.le_antisymm h1 (t_kge hn c (by omega) (by omega))
      subst this
      rw [show g_sil (cG P I L) x = false from hf] at hQ
      clear x38
      repeat' (first
        | ((with_reducible refine @And.intro (vp_in _ _) _ ?_ ?_); (· (first | with_reducible assumption | ((with_reducible refine t_vin ?_); decide) | ((with_reducible refine vp_in_nI ?_ ?_) <;> first | omega | decide) | (simp (disch := omega) only [xl_n, xl_m, nI_dec, nI_sb, nI_add, pk_mul]; (with_reducible refine vp_in_nI ?_ ?_) <;> first | omega | decide))); (conv => whnf))
        | (refine And.intro (by first | with_reducible assumption | exact (show cL _ _ = _ from rfl) | decide) ?_; (conv => whnf))
        | ((with_reducible refine @And.intro (_ = _) _ ?_ ?_); (· rfl); (conv => whnf))
        | ((with_reducible refine @And.intro (@LE.le Nat _ _ _) _ ?_ ?_); (· (first | exact Nat.zero_le _ | exact Nat.le_of_ble_eq_true rfl | omega)); (conv => whnf))
        | ((with_reducible refine @And.intro (@LT.lt Nat _ _ _) _ ?_ ?_); (· omega); (conv => whnf))
        | ((with_reducible refine @And.intro (∃ _, _ = _) _ ?_ ?_); (· exact ⟨_, rfl⟩); (conv => whnf))
        | ((with_reducible refine @And.intro (_ ∨ _) _ ?_ ?_); (· (first | exact Or.inl rfl | exact Or.inr rfl | exact t_b01 _ | assumption)); (conv => whnf))
        | ((with_reducible refine @And.intro (¬ (_ = _)) _ ?_ ?_); (· first | assumption | (with_reducible assumption)); (conv => whnf))
        | (refine hX _ _ _ _ _ _ ?_; (conv => whnf); fail_if_success show False)
        | (rw [c_si]; (conv => whnf))
        | (refine ⟨_, rfl, ?_⟩; (conv => whnf))
        | (refine ⟨_, _, rfl, ?_⟩; (conv => whnf))
        | (refine ⟨_, _, _, rfl, ?_⟩; (conv => whnf))
        | (refine ⟨_, _, _, _, rfl, ?_⟩; (conv => whnf))
        | (refine And.intro (fun c => ?_) (fun c => ?_) <;> (first | (exact absurd c (by decide +kernel)) | (conv => whnf)))
        | fail)
      exact hQ
    · have hk : k < c_h I := t_klt hn c (by omega)
      have x38 := x38 hk
      have es : gsil (cG P I L) k = I 33 k := if_pos (by omega)
      rw [es] at x38
      have yes : (t_has x k && !decide (I 33 k &&& x = nI 0)) = true → Q (some (.int (t_b true))) (cW P Z I) := fun q => by
        have : g_sil (cG P I L) x = true := t_ex_t hk (by
          show (t_has x k && !decide (gsil (cG P I L) k &&& x = nI 0)) = true
          rw [es]
          exact q)
        rw [this] at hQ
        exact hQ
      clear hQ
      repeat' (first
        | ((with_reducible refine @And.intro (vp_in _ _) _ ?_ ?_); (· (first | with_reducible assumption | ((with_reducible refine t_vin ?_); decide) | ((with_reducible refine vp_in_nI ?_ ?_) <;> first | omega | decide) | (simp (disch := omega) only [xl_n, xl_m, nI_dec, nI_sb, nI_add, pk_mul]; (with_reducible refine vp_in_nI ?_ ?_) <;> first | omega | decide))); (conv => whnf))
        | (refine And.intro (by first | with_reducible assumption | exact (show cL _ _ = _ from rfl) | decide) ?_; (conv => whnf))
        | ((with_reducible refine @And.intro (_ = _) _ ?_ ?_); (· rfl); (conv => whnf))
        | ((with_reducible refine @And.intro (@LE.le Nat _ _ _) _ ?_ ?_); (· (first | exact Nat.zero_le _ | exact Nat.le_of_ble_eq_true rfl | omega)); (conv => whnf))
        | ((with_reducible refine @And.intro (@LT.lt Nat _ _ _) _ ?_ ?_); (· omega); (conv => whnf))
        | ((with_reducible refine @And.intro (∃ _, _ = _) _ ?_ ?_); (· exact ⟨_, rfl⟩); (conv => whnf))
        | ((with_reducible refine @And.intro (_ ∨ _) _ ?_ ?_); (· (first | exact Or.inl rfl | exact Or.inr rfl | exact t_b01 _ | assumption)); (conv => whnf))
        | ((with_reducible refine @And.intro (¬ (_ = _)) _ ?_ ?_); (· first | assumption | (with_reducible assumption)); (conv => whnf))
        | (refine hX _ _ _ _ _ _ ?_; (conv => whnf); fail_if_success show False)
        | (rw [c_si]; (conv => whnf))
        | (refine ⟨_, rfl, ?_⟩; (conv => whnf))
        | (refine ⟨_, _, rfl, ?_⟩; (conv => whnf))
        | (refine ⟨_, _, _, rfl, ?_⟩; (conv => whnf))
        | (refine ⟨_, _, _, _, rfl, ?_⟩; (conv => whnf))
        | (refine And.intro (fun c => ?_) (fun c => ?_) <;> (first | (exact absurd c (by decide +kernel)) | (conv => whnf)))
        | fail)
      · have c1 : ¬ (x >>> (nI k &&& 31)) &&& nI 1 = nI 1 := c
        exact x38 (by
          rw [show t_has x k = false from decide_eq_false c1]
          rfl)
      · have c1 : I 33 (nI k).toNatClampNeg &&& x = nI 0 := c
        rw [nI_clamp (by omega)] at c1
        exact x38 (by rw [decide_eq_true c1, Bool.not_true, Bool.and_false])
      · have c1 : ¬ I 33 (nI k).toNatClampNeg &&& x = nI 0 := c
        rw [nI_clamp (by omega)] at c1
        have c0 := (by assumption : ¬ (fun x y : Int32 => ¬ x = y) ((fun x y : Int32 => x &&& y) ((fun x y : Int32 => x >>> (y &&& 31)) x (nI k)) (Int32.ofInt 1)) (Int32.ofInt 1))
        have c2 : ¬ ¬ (x >>> (nI k &&& 31)) &&& nI 1 = nI 1 := c0
        refine yes ?_
        rw [show t_has x k = true from decide_eq_true (Classical.not_not.mp c2), decide_eq_false c1]
        rfl
  have fin := loop 0 (Nat.zero_le _) rfl
  clear loop
  refine ⟨rfl, ?_⟩
  repeat' (first
    | ((with_reducible refine @And.intro (vp_in _ _) _ ?_ ?_); (· (first | with_reducible assumption | ((with_reducible refine t_vin ?_); decide) | ((with_reducible refine vp_in_nI ?_ ?_) <;> first | omega | decide) | (simp (disch := omega) only [xl_n, xl_m, nI_dec, nI_sb, nI_add, pk_mul]; (with_reducible refine vp_in_nI ?_ ?_) <;> first | omega | decide))); (conv => whnf))
    | (refine And.intro (by first | with_reducible assumption | exact (show cL _ _ = _ from rfl) | decide) ?_; (conv => whnf))
    | ((with_reducible refine @And.intro (_ = _) _ ?_ ?_); (· rfl); (conv => whnf))
    | ((with_reducible refine @And.intro (@LE.le Nat _ _ _) _ ?_ ?_); (· (first | exact Nat.zero_le _ | exact Nat.le_of_ble_eq_true rfl | omega)); (conv => whnf))
    | ((with_reducible refine @And.intro (@LT.lt Nat _ _ _) _ ?_ ?_); (· omega); (conv => whnf))
    | ((with_reducible refine @And.intro (∃ _, _ = _) _ ?_ ?_); (· exact ⟨_, rfl⟩); (conv => whnf))
    | ((with_reducible refine @And.intro (_ ∨ _) _ ?_ ?_); (· (first | exact Or.inl rfl | exact Or.inr rfl | exact t_b01 _ | assumption)); (conv => whnf))
    | ((with_reducible refine @And.intro (¬ (_ = _)) _ ?_ ?_); (· first | assumption | (with_reducible assumption)); (conv => whnf))
    | (refine hX _ _ _ _ _ _ ?_; (conv => whnf); fail_if_success show False)
    | (rw [c_si]; (conv => whnf))
    | (refine ⟨_, rfl, ?_⟩; (conv => whnf))
    | (refine ⟨_, _, rfl, ?_⟩; (conv => whnf))
    | (refine ⟨_, _, _, rfl, ?_⟩; (conv => whnf))
    | (refine ⟨_, _, _, _, rfl, ?_⟩; (conv => whnf))
    | (refine And.intro (fun c => ?_) (fun c => ?_) <;> (first | (exact absurd c (by decide +kernel)) | (conv => whnf)))
    | fail)
  exact fin
theorem ct_X1_isSilent : xm_Ct cI yX1_isSilent (ws_ yX1_isSilent cX1_isSilent 3 (some .boolean)) 1 0 0 S_X1_isSilent := xm_enter (rt := 1) (init := false) (by decide +kernel) rfl (fun h => by cases h) (Or.inr (Or.inl ⟨rfl, Or.inl rfl⟩)) (oX1_isSilent) body_X1_isSilent
theorem cv_X1_isSilent {own : String} {cc : ByteArray} {fr pc idx : Nat} (hdg : decode cc pc = .ok (.invokevirtual idx, 3)) (hl : xm_ml own idx yX1_isSilent) (hfr : 1 < fr) : xm_CallOK cI own cc fr pc (pc + 3) 2 0 0 (xm_this 0 S_X1_isSilent) := xm_callV 0 cI_good (ct_X1_isSilent) hdg hl q854 qs9 q116 q855 rfl rfl (by decide +kernel) hfr (by decide)
abbrev bX1_mute_0 : List xE := [(.iconst 0, 1, 0, 0, 0), (.istore_n 1, 2, 0, 0, 0), (.iconst 0, 3, 0, 0, 0), (.istore_n 2, 4, 0, 0, 0)]
abbrev bX1_mute_4 : List xE := [(.iload_n 2, 5, 0, 0, 0), (.aload_n 0, 6, 0, 0, 0), (.getfield 31, 9, 0, 0, 1), (.getfield 133, 12, 1, 12, 0), (.if_icmp .ge 35, 15, 0, 47, 0), (.iload_n 1, 16, 0, 0, 0), (.aload_n 0, 17, 0, 0, 0), (.aload_n 0, 18, 0, 0, 0), (.getfield 58, 21, 0, 5, 1), (.getfield 247, 24, 7, 1, 1), (.iload_n 2, 25, 0, 0, 0), (.iaload, 26, 0, 0, 0), (.invokevirtual 337, 29, 0, 0, 9), (.ifCond .eq 9, 32, 0, 38, 0), (.iconst 1, 33, 0, 0, 0), (.iload_n 2, 34, 0, 0, 0), (.ishl, 35, 0, 0, 0), (.goto 4, 38, 0, 39, 0)]
abbrev bX1_mute_38 : List xE := [(.iconst 0, 39, 0, 0, 0)]
abbrev bX1_mute_39 : List xE := [(.ior, 40, 0, 0, 0), (.istore_n 1, 41, 0, 0, 0), (.iinc 2 1, 44, 0, 0, 0), (.goto (-40), 47, 0, 4, 0)]
abbrev bX1_mute_47 : List xE := [(.iload_n 1, 48, 0, 0, 0), (.ireturn, 49, 0, 0, 0)]
abbrev kX1_mute : List (Nat × List xE) := [(0, bX1_mute_0), (4, bX1_mute_4), (38, bX1_mute_38), (39, bX1_mute_39), (47, bX1_mute_47)]
abbrev lX1_mute : List (Nat × Nat × Nat × xS) := [(2, 0, 0, xm_this 0 S_X1_isSilent)]
theorem oX1_mute_0  : xm_okb cI RX1 cX1_mute false 2 lX1_mute bX1_mute_0 0 := xo_0 dX1_mute_0 rfl trivial (xo_0 dX1_mute_1 rfl trivial (xo_0 dX1_mute_2 rfl trivial (xo_0 dX1_mute_3 rfl trivial (xo_n))))
theorem oX1_mute_4  : xm_okb cI RX1 cX1_mute false 2 lX1_mute bX1_mute_4 4 := xo_0 dX1_mute_4 rfl trivial (xo_0 dX1_mute_5 rfl trivial (xo_1 dX1_mute_6 rfl (xm_fg_of (Or.inl q716) (by decide) rfl (by decide) rfl rfl (Or.inl rfl) rfl) (xo_0 dX1_mute_9 rfl (xm_fg_of (Or.inr ⟨_, q560⟩) (by decide) rfl (by decide) rfl rfl (Or.inl rfl) rfl) (xo_0 dX1_mute_12 rfl rfl (xo_0 dX1_mute_15 rfl trivial (xo_0 dX1_mute_16 rfl trivial (xo_0 dX1_mute_17 rfl trivial (xo_1 dX1_mute_18 rfl (xm_fg_of (Or.inl q724) (by decide) rfl (by decide) rfl rfl (Or.inl rfl) rfl) (xo_1 dX1_mute_21 rfl (xm_fg_of (Or.inr ⟨_, q665⟩) (by decide) rfl (by decide) rfl rfl (Or.inl rfl) rfl) (xo_0 dX1_mute_24 rfl trivial (xo_0 dX1_mute_25 rfl trivial (xo_c rfl (cv_X1_isSilent dX1_mute_26 (Or.inl q852) (by decide)) (xo_0 dX1_mute_29 rfl rfl (xo_0 dX1_mute_32 rfl trivial (xo_0 dX1_mute_33 rfl trivial (xo_0 dX1_mute_34 rfl trivial (xo_0 dX1_mute_35 rfl rfl (xo_n))))))))))))))))))
theorem oX1_mute_38  : xm_okb cI RX1 cX1_mute false 2 lX1_mute bX1_mute_38 38 := xo_0 dX1_mute_38 rfl trivial (xo_n)
theorem oX1_mute_39  : xm_okb cI RX1 cX1_mute false 2 lX1_mute bX1_mute_39 39 := xo_0 dX1_mute_39 rfl trivial (xo_0 dX1_mute_40 rfl trivial (xo_0 dX1_mute_41 rfl trivial (xo_0 dX1_mute_44 rfl rfl (xo_n))))
theorem oX1_mute_47  : xm_okb cI RX1 cX1_mute false 2 lX1_mute bX1_mute_47 47 := xo_0 dX1_mute_47 rfl trivial (xo_0 dX1_mute_48 rfl trivial (xo_n))
theorem oX1_mute  : ∀ q ∈ kX1_mute, xm_okb cI RX1 cX1_mute false 2 lX1_mute q.2 q.1 := by
  intro q hq
  simp only [List.mem_cons, List.not_mem_nil, or_false] at hq
  rcases hq with rfl | rfl | rfl | rfl | rfl
  · exact oX1_mute_0  
  · exact oX1_mute_4  
  · exact oX1_mute_38  
  · exact oX1_mute_39  
  · exact oX1_mute_47  
def S_X1_mute : xS := cU fun as P Z I Q QX => ∃ L, as = [.ref 0] ∧ c_good P Z I L ∧ c_P P Z L (cG P I L) Q QX (q_mute (cG P I L))
theorem body_X1_mute : xm_Body 3 0 0 0 [] lX1_mute kX1_mute S_X1_mute := by
  intro X avs w Q QX hX0 hS
  have hG := xm_go [] hX0
  have hX := xm_go [4] hX0
  clear hX0
  obtain ⟨P, Z, I, rfl, L, rfl, hg, hQ⟩ := hS
  have hok := hg.ok
  obtain ⟨hn, h9, hm, h8⟩ := id hok
  have h5 := c_5 (P := P)
  have loop : ∀ k, k ≤ c_p I → X 4 [some (.ref 0), some (.int (t_or k fun p => g_sil (cG P I L) (gw (cA I 5) p))), some (.int (nI k))] [] (cW P Z I) 0 0 := by
    refine t_for fun k h1 ih => ?_
    refine hG _ _ _ _ _ _ ?_
    (conv => whnf)
    repeat' (first
      | ((with_reducible refine @And.intro (vp_in _ _) _ ?_ ?_); (· (first | with_reducible assumption | ((with_reducible refine t_vin ?_); decide) | ((with_reducible refine vp_in_nI ?_ ?_) <;> first | omega | decide) | (simp (disch := omega) only [xl_n, xl_m, nI_dec, nI_sb, nI_add, pk_mul]; (with_reducible refine vp_in_nI ?_ ?_) <;> first | omega | decide))); (conv => whnf))
      | (refine And.intro (by first | with_reducible assumption | exact (show cL _ _ = _ from rfl) | decide) ?_; (conv => whnf))
      | ((with_reducible refine @And.intro (_ = _) _ ?_ ?_); (· rfl); (conv => whnf))
      | ((with_reducible refine @And.intro (@LE.le Nat _ _ _) _ ?_ ?_); (· (first | exact Nat.zero_le _ | exact Nat.le_of_ble_eq_true rfl | omega)); (conv => whnf))
      | ((with_reducible refine @And.intro (@LT.lt Nat _ _ _) _ ?_ ?_); (· omega); (conv => whnf))
      | ((with_reducible refine @And.intro (∃ _, _ = _) _ ?_ ?_); (· exact ⟨_, rfl⟩); (conv => whnf))
      | ((with_reducible refine @And.intro (_ ∨ _) _ ?_ ?_); (· (first | exact Or.inl rfl | exact Or.inr rfl | exact t_b01 _ | assumption)); (conv => whnf))
      | ((with_reducible refine @And.intro (¬ (_ = _)) _ ?_ ?_); (· first | assumption | (with_reducible assumption)); (conv => whnf))
      | (refine hX _ _ _ _ _ _ ?_; (conv => whnf); fail_if_success show False)
      | (rw [c_si]; (conv => whnf))
      | (refine ⟨_, rfl, ?_⟩; (conv => whnf))
      | (refine ⟨_, _, rfl, ?_⟩; (conv => whnf))
      | (refine ⟨_, _, _, rfl, ?_⟩; (conv => whnf))
      | (refine ⟨_, _, _, _, rfl, ?_⟩; (conv => whnf))
      | fail)
    refine And.intro (fun c => ?_) (fun c => ?_) <;> (conv => whnf)
    · repeat' (first
        | ((with_reducible refine @And.intro (vp_in _ _) _ ?_ ?_); (· (first | with_reducible assumption | ((with_reducible refine t_vin ?_); decide) | ((with_reducible refine vp_in_nI ?_ ?_) <;> first | omega | decide) | (simp (disch := omega) only [xl_n, xl_m, nI_dec, nI_sb, nI_add, pk_mul]; (with_reducible refine vp_in_nI ?_ ?_) <;> first | omega | decide))); (conv => whnf))
        | (refine And.intro (by first | with_reducible assumption | exact (show cL _ _ = _ from rfl) | decide) ?_; (conv => whnf))
        | ((with_reducible refine @And.intro (_ = _) _ ?_ ?_); (· rfl); (conv => whnf))
        | ((with_reducible refine @And.intro (@LE.le Nat _ _ _) _ ?_ ?_); (· (first | exact Nat.zero_le _ | exact Nat.le_of_ble_eq_true rfl | omega)); (conv => whnf))
        | ((with_reducible refine @And.intro (@LT.lt Nat _ _ _) _ ?_ ?_); (· omega); (conv => whnf))
        | ((with_reducible refine @And.intro (∃ _, _ = _) _ ?_ ?_); (· exact ⟨_, rfl⟩); (conv => whnf))
        | ((with_reducible refine @And.intro (_ ∨ _) _ ?_ ?_); (· (first | exact Or.inl rfl | exact Or.inr rfl | exact t_b01 _ | assumption)); (conv => whnf))
        | ((with_reducible refine @And.intro (¬ (_ = _)) _ ?_ ?_); (· first | assumption | (with_reducible assumption)); (conv => whnf))
        | (refine hX _ _ _ _ _ _ ?_; (conv => whnf); fail_if_success show False)
        | (rw [c_si]; (conv => whnf))
        | (refine ⟨_, rfl, ?_⟩; (conv => whnf))
        | (refine ⟨_, _, rfl, ?_⟩; (conv => whnf))
        | (refine ⟨_, _, _, rfl, ?_⟩; (conv => whnf))
        | (refine ⟨_, _, _, _, rfl, ?_⟩; (conv => whnf))
        | fail)
      have : k = c_p I := Nat.le_antisymm h1 (t_kge hm c (by omega) (by omega))
      subst this
      refine c_ask hQ hg c_sp.rf ?_
      exact t_or_c fun p hp => g_sil_0.symm
    · have hk : k < c_p I := t_klt hm c (by omega)
      have eg : gw (cA I 5) k = I (10 * 5 + 1) k := cA_gw (by omega)
      have := ih (k + 1) (by omega) (by omega)
      clear ih
      rw [t_or_s, eg] at this
      repeat' (first
        | ((with_reducible refine @And.intro (vp_in _ _) _ ?_ ?_); (· (first | with_reducible assumption | ((with_reducible refine t_vin ?_); decide) | ((with_reducible refine vp_in_nI ?_ ?_) <;> first | omega | decide) | (simp (disch := omega) only [xl_n, xl_m, nI_dec, nI_sb, nI_add, pk_mul]; (with_reducible refine vp_in_nI ?_ ?_) <;> first | omega | decide))); (conv => whnf))
        | (refine And.intro (by first | with_reducible assumption | exact (show cL _ _ = _ from rfl) | decide) ?_; (conv => whnf))
        | ((with_reducible refine @And.intro (_ = _) _ ?_ ?_); (· rfl); (conv => whnf))
        | ((with_reducible refine @And.intro (@LE.le Nat _ _ _) _ ?_ ?_); (· (first | exact Nat.zero_le _ | exact Nat.le_of_ble_eq_true rfl | omega)); (conv => whnf))
        | ((with_reducible refine @And.intro (@LT.lt Nat _ _ _) _ ?_ ?_); (· omega); (conv => whnf))
        | ((with_reducible refine @And.intro (∃ _, _ = _) _ ?_ ?_); (· exact ⟨_, rfl⟩); (conv => whnf))
        | ((with_reducible refine @And.intro (_ ∨ _) _ ?_ ?_); (· (first | exact Or.inl rfl | exact Or.inr rfl | exact t_b01 _ | assumption)); (conv => whnf))
        | ((with_reducible refine @And.intro (¬ (_ = _)) _ ?_ ?_); (· first | assumption | (with_reducible assumption)); (conv => whnf))
        | (refine hX _ _ _ _ _ _ ?_; (conv => whnf); fail_if_success show False)
        | (rw [c_si]; simp (disch := omega) only [xl_n, xl_m, nI_dec, nI_sb, xl_0, xl_1, cW_i, Nat.add_zero, Nat.reduceAdd, Nat.reduceMul, t_bn0, t_bn1, Classical.not_not, t_lt, nI_add, nI_1, pk_mul, nI_clamp, c_si, nI_eq, nI_leI, nM_ne, nM_ne, xm_u2_ne, xm_u2_at, reduceIte, Nat.reduceEqDiff]; (conv => whnf))
        | (refine ⟨_, rfl, ?_⟩; (conv => whnf))
        | (refine ⟨_, _, rfl, ?_⟩; (conv => whnf))
        | (refine ⟨_, _, _, rfl, ?_⟩; (conv => whnf))
        | (refine ⟨_, _, _, _, rfl, ?_⟩; (conv => whnf))
        | (refine ⟨_,L,rfl,hok,?_⟩; (conv => whnf))
        | (rw [c_tl h5]; (conv => whnf))
        | (rw [c_t7 h5]; (conv => whnf))
        | (rw [c_tf h5 (by decide)]; (conv => whnf))
        | (rw [c_t0 h5]; (conv => whnf))
        | (rw [c_t1 h5]; (conv => whnf))
        | (rw [c_t2 h5]; (conv => whnf))
        | (rw [c_t3 h5]; (conv => whnf))
        | (rw [c_t4 h5]; (conv => whnf))
        | (rw [c_t5 h5]; (conv => whnf))
        | (refine And.intro ⟨_, c_tl h5⟩ ?_; (conv => whnf))
        | (refine And.intro (fun c => ?_) (fun c => ?_) <;> (first | (exact absurd c (by decide +kernel)) | (conv => whnf)))
        | fail)
      all_goals clear hX hG hQ
      all_goals simp (disch := omega) only [xl_n, xl_m, nI_dec, nI_sb, xl_0, xl_1, cW_i, Nat.add_zero, Nat.reduceAdd, Nat.reduceMul, t_bn0, t_bn1, Classical.not_not, t_lt, nI_add, nI_1, pk_mul, nI_clamp, c_si, nI_eq, nI_leI, nM_ne, nM_ne, xm_set, xm_lv0, xm_psh] at *
      all_goals simpa [t_bit, *, t_bf, t_bt] using this
  refine ⟨rfl, ?_⟩
  repeat' (first
    | ((with_reducible refine @And.intro (vp_in _ _) _ ?_ ?_); (· (first | with_reducible assumption | ((with_reducible refine t_vin ?_); decide) | ((with_reducible refine vp_in_nI ?_ ?_) <;> first | omega | decide) | (simp (disch := omega) only [xl_n, xl_m, nI_dec, nI_sb, nI_add, pk_mul]; (with_reducible refine vp_in_nI ?_ ?_) <;> first | omega | decide))); (conv => whnf))
    | (refine And.intro (by first | with_reducible assumption | exact (show cL _ _ = _ from rfl) | decide) ?_; (conv => whnf))
    | ((with_reducible refine @And.intro (_ = _) _ ?_ ?_); (· rfl); (conv => whnf))
    | ((with_reducible refine @And.intro (@LE.le Nat _ _ _) _ ?_ ?_); (· (first | exact Nat.zero_le _ | exact Nat.le_of_ble_eq_true rfl | omega)); (conv => whnf))
    | ((with_reducible refine @And.intro (@LT.lt Nat _ _ _) _ ?_ ?_); (· omega); (conv => whnf))
    | ((with_reducible refine @And.intro (∃ _, _ = _) _ ?_ ?_); (· exact ⟨_, rfl⟩); (conv => whnf))
    | ((with_reducible refine @And.intro (_ ∨ _) _ ?_ ?_); (· (first | exact Or.inl rfl | exact Or.inr rfl | exact t_b01 _ | assumption)); (conv => whnf))
    | ((with_reducible refine @And.intro (¬ (_ = _)) _ ?_ ?_); (· first | assumption | (with_reducible assumption)); (conv => whnf))
    | (refine hX _ _ _ _ _ _ ?_; (conv => whnf); fail_if_success show False)
    | (rw [c_si]; (conv => whnf))
    | (refine ⟨_, rfl, ?_⟩; (conv => whnf))
    | (refine ⟨_, _, rfl, ?_⟩; (conv => whnf))
    | (refine ⟨_, _, _, rfl, ?_⟩; (conv => whnf))
    | (refine ⟨_, _, _, _, rfl, ?_⟩; (conv => whnf))
    | (refine And.intro (fun c => ?_) (fun c => ?_) <;> (first | (exact absurd c (by decide +kernel)) | (conv => whnf)))
    | fail)
  exact loop 0 (Nat.zero_le _)
theorem ct_X1_mute : xm_Ct cI yX1_mute (ws_ yX1_mute cX1_mute 3 (some .int)) 2 0 0 S_X1_mute := xm_enter (rt := 0) (init := false) (by decide +kernel) rfl (fun h => by cases h) (Or.inl ⟨rfl, rfl⟩) (oX1_mute) body_X1_mute
theorem cv_X1_mute {own : String} {cc : ByteArray} {fr pc idx : Nat} (hdg : decode cc pc = .ok (.invokevirtual idx, 3)) (hl : xm_ml own idx yX1_mute) (hfr : 2 < fr) : xm_CallOK cI own cc fr pc (pc + 3) 1 0 0 (xm_this 0 S_X1_mute) := xm_callV 0 cI_good (ct_X1_mute) hdg hl q998 q999 q116 q1000 rfl rfl (by decide +kernel) hfr (by decide)
