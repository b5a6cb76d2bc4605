/-! ===== a troupe: deaths, a year's beginning ===== -/
set_option maxRecDepth 100000
theorem t_m9_and {x y : Int32} (h : t_m9 x) : t_m9 (x &&& y) := by
  obtain ⟨n, hn, rfl⟩ := h
  refine ⟨(nI n &&& y).toBitVec.toNat, ?_, ?_⟩
  · have e : (nI n).toBitVec.toNat = n := by
      show (BitVec.ofNat 32 n).toNat = n
      rw [BitVec.toNat_ofNat]
      omega
    rw [Int32.toBitVec_and, BitVec.toNat_and, e]
    exact Nat.lt_of_le_of_lt Nat.and_le_left hn
  · apply Int32.toBitVec_inj.mp
    show _ = BitVec.ofNat 32 _
    rw [BitVec.ofNat_toNat, BitVec.setWidth_eq]
theorem t_m9_or {x y : Int32} (h : t_m9 x) (h2 : t_m9 y) : t_m9 (x ||| y) := by
  obtain ⟨n, hn, rfl⟩ := h
  obtain ⟨m, hm, rfl⟩ := h2
  exact ⟨n ||| m, Nat.or_lt_two_pow (n := 9) hn hm, (nI_or n m).symm⟩
theorem t_m9_bit {h : Nat} (hh : h < 9) : t_m9 (t_bit h) := ⟨2 ^ h, by have : 2 ^ h < 2 ^ 9 := Nat.pow_lt_pow_right (by decide) hh; omega, t_bit_2 hh⟩
theorem g_w_cease {T : gT} {p h : Nat} (hw : g_w T) (hh : h < 9) : g_w (g_cease T p h) := fun q => by
  have := hw q
  unfold gw gl g_cease g_upd at *
  simp only
  by_cases e : q = p
  · rw [if_pos e, if_pos e]
    exact ⟨t_m9_and (hw p).1, Or.inr ⟨h, hh, rfl⟩⟩
  · rw [if_neg e, if_neg e]
    exact this
theorem g_w_take {T : gT} {p h : Nat} (hw : g_w T) (hh : h < 9) : g_w (g_take T p h) := fun q => by
  have := hw q
  unfold gw gl g_take g_cho g_begin g_upd at *
  simp only
  by_cases e : q = p
  · rw [if_pos e]
    exact ⟨t_m9_or (hw p).1 (t_m9_bit hh), this.2⟩
  · rw [if_neg e]
    exact this
theorem g_w_fold {f : Nat → gT → gT} (hf : ∀ k T, g_w T → g_w (f k T)) : ∀ {n : Nat} {T : gT}, g_w T → g_w (t_fold n f T)
  | 0, _, h => h
  | n + 1, _, h => hf n _ (g_w_fold hf h)
theorem g_w_die {K : gK} {T : gT} {h : Nat} (hw : g_w T) (hh : h < 9) : g_w (g_die K T h) := g_w_fold (fun k T hT => by
  split
  · exact g_w_cease hT hh
  · exact hT) (T := g_dead T h) hw
/-! only the troupe r, and the facts -/
def c_sc (r : Nat) (I J : tI) : Prop := ∀ b, b ≠ 2 → b ≠ r → ¬ (10 * r ≤ b ∧ b < 10 * r + 6) → J b = I b
theorem c_sc.rf {r : Nat} {I : tI} : c_sc r I I := fun _ _ _ _ => rfl
theorem c_sc.tr {r : Nat} {I J K : tI} (h : c_sc r I J) (h2 : c_sc r J K) : c_sc r I K := fun b a c d => (h2 b a c d).trans (h b a c d)
theorem c_fa.sc {r : Nat} {I J : tI} (h : c_fa I J) : c_sc r I J := fun b a _ _ => h b a
theorem c_sc.u {r : Nat} {I : tI} {b k : Nat} {v : Int32} (h : b = r ∨ (10 * r ≤ b ∧ b < 10 * r + 6)) : c_sc r I (xm_u2 I b k v) := fun b' _ h2 h3 => funext fun j => xm_u2_ne (fun e => by subst e; rcases h with h | h; exact h2 h; exact h3 h) j
theorem c_sc.K {r : Nat} {I J : tI} {L : List lC} {P : cP} (h : c_sc r I J) (hr : c_tr P r) : cK J L = cK I L := by
  have := hr.ne
  exact cK_eq (h 1 (by decide) (by omega) (by omega)) (fun b h1 h2 => h b (by omega) (by omega) (by omega)) (by rw [h 0 (by decide) (by omega) (by omega)]) (by rw [h 0 (by decide) (by omega) (by omega)])
theorem c_sc.e1 {r : Nat} {I J : tI} {P : cP} (h : c_sc r I J) (hr : c_tr P r) : J 1 = I 1 := h 1 (by decide) (by have := hr.ne; omega) (by have := hr.ne; omega)
theorem c_sc.h {r : Nat} {I J : tI} {P : cP} (h : c_sc r I J) (hr : c_tr P r) : c_h J = c_h I ∧ c_p J = c_p I := by
  unfold c_h c_p
  rw [h.e1 hr]
  exact ⟨rfl, rfl⟩
theorem c_sc.ok {r : Nat} {I J : tI} {P : cP} (h : c_sc r I J) (hr : c_tr P r) (hk : c_ok I) : c_ok J := by
  unfold c_ok c_h c_p at *
  rw [h.e1 hr]
  exact hk
theorem c_sc.lw {r : Nat} {I J : tI} {P : cP} {Z : cX} {L : List lC} (h : c_sc r I J) (hr : c_tr P r) (hl : c_lw P Z I L) : c_lw P Z J L := hl.eq fun a ha => h a (by omega) (by have := hr.ne; omega) (by have := hr.ne; omega)
/-- a troupe in good order -/
def c_ts (P : cP) (Z : cX) (I : tI) (r : Nat) (L : List lC) : Prop := c_tr P r ∧ c_ok I ∧ c_is I r ∧ g_w (cA I r) ∧ c_lw P Z I L
theorem c_ts.fa {P : cP} {Z : cX} {I J : tI} {r : Nat} {L : List lC} (h : c_ts P Z I r L) (hJ : c_fa I J) : c_ts P Z J r L := ⟨h.1, hJ.ok h.2.1, hJ.is h.1 h.2.2.1, by rw [hJ.A h.1]; exact h.2.2.2.1, hJ.lw h.2.2.2.2⟩
/-! one place of a troupe is written -/
section
variable {I : tI} {r p h : Nat} {v : Int32} (hr : 5 ≤ r)
theorem cA_w (hr : 5 ≤ r) (hp : p < 8) : cA (xm_u2 I (10 * r + 1) p v) r = (g_upd (cA I r).1 p v, (cA I r).2) := by
  refine g_ext (fun q => ?_) (fun q => ?_) (fun q => ?_) (fun a q => ?_) (fun a => ?_) (fun a => ?_) ?_ <;> simp only [cA, xm_u2, g_upd, true_and] <;> grind
theorem cA_s (hr : 5 ≤ r) (hp : p < 8) : cA (xm_u2 I (10 * r + 3) p v) r = g_str (cA I r) p v := by
  refine g_ext (fun q => ?_) (fun q => ?_) (fun q => ?_) (fun a q => ?_) (fun a => ?_) (fun a => ?_) ?_ <;> simp only [cA, xm_u2, g_upd, g_str, true_and] <;> grind
theorem cA_l (hr : 5 ≤ r) (hp : p < 8) : cA (xm_u2 I (10 * r + 2) p v) r = ((cA I r).1, (cA I r).2.1, g_upd (cA I r).2.2.1 p v, (cA I r).2.2.2) := by
  refine g_ext (fun q => ?_) (fun q => ?_) (fun q => ?_) (fun a q => ?_) (fun a => ?_) (fun a => ?_) ?_ <;> simp only [cA, xm_u2, g_upd, true_and] <;> grind
theorem cA_i (hr : 5 ≤ r) (hh : h < 9) (hp : p < 8) : cA (xm_u2 I (10 * r + 4) (8 * h + p) v) r = ((cA I r).1, (cA I r).2.1, (cA I r).2.2.1, (fun a q => if a = h ∧ q = p then v else gsi (cA I r) a q), (cA I r).2.2.2.2) := by
  refine g_ext (fun q => ?_) (fun q => ?_) (fun q => ?_) (fun a q => ?_) (fun a => ?_) (fun a => ?_) ?_ <;> simp only [cA, xm_u2, gsi, true_and] <;> grind
theorem cA_c (hr : 5 ≤ r) (hh : h < 9) : cA (xm_u2 I (10 * r + 5) h v) r = g_cho (cA I r) h v := by
  refine g_ext (fun q => ?_) (fun q => ?_) (fun q => ?_) (fun a q => ?_) (fun a => ?_) (fun a => ?_) ?_ <;> simp only [cA, xm_u2, g_upd, g_cho, true_and] <;> grind
theorem cA_d (hr : 5 ≤ r) (hh : h < 9) : cA (xm_u2 I (10 * r) h (nI 2)) r = g_dead (cA I r) h := by
  refine g_ext (fun q => ?_) (fun q => ?_) (fun q => ?_) (fun a q => ?_) (fun a => ?_) (fun a => ?_) ?_ <;> simp only [cA, xm_u2, g_upd, g_dead, true_and] <;> grind
theorem cA_y (hr : 5 ≤ r) : cA (xm_u2 I r 6 v) r = g_year (cA I r) v := by
  refine g_ext (fun q => ?_) (fun q => ?_) (fun q => ?_) (fun a q => ?_) (fun a => ?_) (fun a => ?_) ?_ <;> simp only [cA, xm_u2, g_upd, g_year, true_and] <;> grind
theorem cA_v {a k : Nat} (ha : a ≠ r) (hb : ¬ (10 * r ≤ a ∧ a < 10 * r + 6)) : cA (xm_u2 I a k v) r = cA I r := cA_eq (fun j hj => funext fun i => xm_u2_ne (by omega) i) (xm_u2_ne (Ne.symm ha) _)
end
abbrev bX10_dies_0 : List xE := [(.aload_n 0, 1, 0, 0, 0), (.iload_n 1, 2, 0, 0, 0), (.invokevirtual 91, 5, 0, 0, 9), (.istore_n 2, 6, 0, 0, 0), (.aload_n 0, 7, 0, 0, 0), (.getfield 15, 10, 7, 0, 1), (.iload_n 1, 11, 0, 0, 0), (.iconst 2, 12, 0, 0, 0), (.iastore, 13, 0, 0, 0), (.iconst 0, 14, 0, 0, 0), (.istore_n 3, 15, 0, 0, 0)]
abbrev bX10_dies_15 : List xE := [(.iload_n 3, 16, 0, 0, 0), (.aload_n 0, 17, 0, 0, 0), (.getfield 3, 20, 7, 7, 1), (.getfield 38, 23, 0, 0, 1), (.getfield 64, 26, 1, 12, 0), (.if_icmp .ge 24, 29, 0, 50, 0), (.iload_n 2, 30, 0, 0, 0), (.iload_n 3, 31, 0, 0, 0), (.ishr, 32, 0, 0, 0), (.iconst 1, 33, 0, 0, 0), (.iand, 34, 0, 0, 0), (.iconst 1, 35, 0, 0, 0), (.if_icmp .ne 9, 38, 0, 44, 0), (.aload_n 0, 39, 0, 0, 0), (.iload_n 3, 40, 0, 0, 0), (.iload_n 1, 41, 0, 0, 0), (.invokevirtual 116, 44, 0, 1, 9)]
abbrev bX10_dies_44 : List xE := [(.iinc 3 1, 47, 0, 0, 0), (.goto (-32), 50, 0, 15, 0)]
abbrev bX10_dies_50 : List xE := [(.iload_n 2, 51, 0, 0, 0), (.invokestatic 70, 54, 0, 2, 9), (.ireturn, 55, 0, 0, 0)]
abbrev kX10_dies : List (Nat × List xE) := [(0, bX10_dies_0), (15, bX10_dies_15), (44, bX10_dies_44), (50, bX10_dies_50)]
abbrev lX10_dies : List (Nat × Nat × Nat × xS) := [(2, 0, 0, xm_this 7 S_X10_workedBy), (3, 0, 0, xm_this 7 S_X10_leaves), (1, 0, 0, S_J16_bitCount)]
theorem oX10_dies_0  : xm_okb cI RX10 cX10_dies false 3 lX10_dies bX10_dies_0 0 := xo_0 dX10_dies_0 rfl trivial (xo_0 dX10_dies_1 rfl trivial (xo_c rfl (cv_X10_workedBy dX10_dies_2 (Or.inl q888) (by decide)) (xo_0 dX10_dies_5 rfl trivial (xo_0 dX10_dies_6 rfl trivial (xo_1 dX10_dies_7 rfl (xm_fg_of (Or.inl q662) (by decide) rfl (by decide) rfl rfl (Or.inl rfl) rfl) (xo_0 dX10_dies_10 rfl trivial (xo_0 dX10_dies_11 rfl trivial (xo_0 dX10_dies_12 rfl trivial (xo_0 dX10_dies_13 rfl trivial (xo_0 dX10_dies_14 rfl trivial (xo_n)))))))))))
theorem oX10_dies_15  : xm_okb cI RX10 cX10_dies false 3 lX10_dies bX10_dies_15 15 := xo_0 dX10_dies_15 rfl trivial (xo_0 dX10_dies_16 rfl trivial (xo_1 dX10_dies_17 rfl (xm_fg_of (Or.inl q676) (by decide) rfl (by decide) rfl rfl (Or.inl rfl) rfl) (xo_1 dX10_dies_20 rfl (xm_fg_of (Or.inr ⟨_, q717⟩) (by decide) rfl (by decide) rfl rfl (Or.inl rfl) rfl) (xo_0 dX10_dies_23 rfl (xm_fg_of (Or.inr ⟨_, q559⟩) (by decide) rfl (by decide) rfl rfl (Or.inl rfl) rfl) (xo_0 dX10_dies_26 rfl rfl (xo_0 dX10_dies_29 rfl trivial (xo_0 dX10_dies_30 rfl trivial (xo_0 dX10_dies_31 rfl trivial (xo_0 dX10_dies_32 rfl trivial (xo_0 dX10_dies_33 rfl trivial (xo_0 dX10_dies_34 rfl trivial (xo_0 dX10_dies_35 rfl rfl (xo_0 dX10_dies_38 rfl trivial (xo_0 dX10_dies_39 rfl trivial (xo_0 dX10_dies_40 rfl trivial (xo_c rfl (cv_X10_leaves dX10_dies_41 (Or.inl q892) (by decide)) (xo_n)))))))))))))))))
theorem oX10_dies_44  : xm_okb cI RX10 cX10_dies false 3 lX10_dies bX10_dies_44 44 := xo_0 dX10_dies_44 rfl trivial (xo_0 dX10_dies_47 rfl rfl (xo_n))
theorem oX10_dies_50  : xm_okb cI RX10 cX10_dies false 3 lX10_dies bX10_dies_50 50 := xo_0 dX10_dies_50 rfl trivial (xo_c rfl (cv_J16_bitCount dX10_dies_51 (Or.inl q896) (by decide)) (xo_0 dX10_dies_54 rfl trivial (xo_n)))
theorem oX10_dies  : ∀ q ∈ kX10_dies, xm_okb cI RX10 cX10_dies false 3 lX10_dies q.2 q.1 := by
  intro q hq
  simp only [List.mem_cons, List.not_mem_nil, or_false] at hq
  rcases hq with rfl | rfl | rfl | rfl
  · exact oX10_dies_0  
  · exact oX10_dies_15  
  · exact oX10_dies_44  
  · exact oX10_dies_50  
def S_X10_dies : xS := cU fun as P X I Q QX => ∃ r h L, as = [.ref r, .int (nI h)] ∧ c_ts P X I r L ∧ h < c_h I ∧ ∀ J, c_sc r I J → c_ts P X J r L → cA J r = g_die (cK I L) (cA I r) h → Q (some (.int (t_ones (g_work (cK I L) (cA I r) h)))) J
theorem body_X10_dies : xm_Body 4 0 0 0 [] lX10_dies kX10_dies S_X10_dies := by
  intro X avs w Q QX hX0 hS
  have hG := xm_go [] hX0
  have hX := xm_go [15, 44] hX0
  clear hX0
  obtain ⟨P, Z, I, rfl, r, h, L, rfl, ⟨hr, hok, his, hw, hlw⟩, hh, hQ⟩ := hS
  obtain ⟨hn, h9, hm, h8⟩ := id hok
  have hrn := hr.ne
  obtain ⟨B, hB⟩ : ∃ B, B = t_or (c_p I) (fun p => t_has (gw (cA I r) p) h) := ⟨_, rfl⟩
  have hm9 : t_m9 B := by rw [hB]; exact t_or_m9 (by omega)
  have hBk : ∀ k, k < c_p I → t_has B k = t_has (gw (cA I r) k) h := fun k hk => by
    rw [hB, th_OR (by omega) (by omega), decide_eq_true hk, Bool.true_and]
  let D : Nat → gT := fun k => t_fold k (fun p T => if t_has (gw T p) h = true then g_cease T p h else T) (g_dead (cA I r) h)
  have hD0 : D 0 = g_dead (cA I r) h := rfl
  have hDs : ∀ k, D (k + 1) = if t_has (gw (D k) k) h = true then g_cease (D k) k h else D k := fun k => rfl
  have hDe : D (c_p I) = g_die (cK I L) (cA I r) h := rfl
  have hDq : ∀ k q, k ≤ q → gw (D k) q = gw (cA I r) q := by
    intro k
    induction k with
    | zero => exact fun q _ => rfl
    | succ k ih =>
      intro q hq
      rw [hDs]
      split
      · show (if q = k then _ else (D k).1 q) = _
        rw [if_neg (by omega)]
        exact ih q (by omega)
      · exact ih q (by omega)
  clear_value D
  have loop : ∀ k, k ≤ c_p I → ∀ M, c_sc r I M → M (10 * r) = xm_u2 I (10 * r) h (nI 2) (10 * r) → cA M r = D k → X 15 [some (.ref r), some (.int (nI h)), some (.int B), some (.int (nI k))] [] (cW P Z M) 0 0 := by
    refine t_for fun k h1 ih M hM h0 hA => ?_
    have hmM : M 1 12 = nI (c_p I) := by rw [hM.e1 hr]; exact hm
    have x44 : k < c_p I → ∀ N, c_sc r I N → N (10 * r) = xm_u2 I (10 * r) h (nI 2) (10 * r) → cA N r = D (k + 1) → X 44 [some (.ref r), some (.int (nI h)), some (.int B), some (.int (nI k))] [] (cW P Z N) 0 0 := by
      intro hk N hN h0 hA
      have := ih (k + 1) (by omega) (by omega) N hN h0 hA
      clear ih
      refine hG _ _ _ _ _ _ ?_
      (conv => whnf)
      repeat' (first
        | ((with_reducible refine @And.intro (vp_in _ _) _ ?_ ?_); (· (first | with_reducible assumption | ((with_reducible refine t_vin ?_); decide) | ((with_reducible refine vp_in_nI ?_ ?_) <;> first | omega | decide) | (simp (disch := omega) only [xl_n, xl_m, nI_dec, nI_sb, nI_add, pk_mul]; (with_reducible refine vp_in_nI ?_ ?_) <;> first | omega | decide))); (conv => whnf))
        | (refine And.intro (by first | with_reducible assumption | exact (show cL _ _ = _ from rfl) | decide) ?_; (conv => whnf))
        | ((with_reducible refine @And.intro (_ = _) _ ?_ ?_); (· rfl); (conv => whnf))
        | ((with_reducible refine @And.intro (@LE.le Nat _ _ _) _ ?_ ?_); (· (first | exact Nat.zero_le _ | exact Nat.le_of_ble_eq_true rfl | omega)); (conv => whnf))
        | ((with_reducible refine @And.intro (@LT.lt Nat _ _ _) _ ?_ ?_); (· omega); (conv => whnf))
        | ((with_reducible refine @And.intro (∃ _, _ = _) _ ?_ ?_); (· exact ⟨_, rfl⟩); (conv => whnf))
        | ((with_reducible refine @And.intro (_ ∨ _) _ ?_ ?_); (· (first | exact Or.inl rfl | exact Or.inr rfl | exact t_b01 _ | assumption)); (conv => whnf))
        | ((with_reducible refine @And.intro (¬ (_ = _)) _ ?_ ?_); (· first | assumption | (with_reducible assumption)); (conv => whnf))
        | (refine hX _ _ _ _ _ _ ?_; (conv => whnf); fail_if_success show False)
        | (rw [c_si]; (conv => whnf))
        | (refine ⟨_, rfl, ?_⟩; (conv => whnf))
        | (refine ⟨_, _, rfl, ?_⟩; (conv => whnf))
        | (refine ⟨_, _, _, rfl, ?_⟩; (conv => whnf))
        | (refine ⟨_, _, _, _, rfl, ?_⟩; (conv => whnf))
        | (refine And.intro (fun c => ?_) (fun c => ?_) <;> (first | (exact absurd c (by decide +kernel)) | (conv => whnf)))
        | fail)
      clear hX hG
      simp (disch := omega) only [xl_n, xl_m, nI_dec, nI_sb, xl_0, xl_1, cW_i, Nat.add_zero, Nat.reduceAdd, Nat.reduceMul, t_bn0, t_bn1, Classical.not_not, t_lt, nI_add, nI_1, pk_mul, nI_clamp, c_si, nI_eq, nI_leI, nM_ne, nM_ne, xm_set] at *
      exact this
    clear ih
    refine hG _ _ _ _ _ _ ?_
    (conv => whnf)
    repeat' (first
      | ((with_reducible refine @And.intro (vp_in _ _) _ ?_ ?_); (· (first | with_reducible assumption | ((with_reducible refine t_vin ?_); decide) | ((with_reducible refine vp_in_nI ?_ ?_) <;> first | omega | decide) | (simp (disch := omega) only [xl_n, xl_m, nI_dec, nI_sb, nI_add, pk_mul]; (with_reducible refine vp_in_nI ?_ ?_) <;> first | omega | decide))); (conv => whnf))
      | (refine And.intro (by first | with_reducible assumption | exact (show cL _ _ = _ from rfl) | decide) ?_; (conv => whnf))
      | ((with_reducible refine @And.intro (_ = _) _ ?_ ?_); (· rfl); (conv => whnf))
      | ((with_reducible refine @And.intro (@LE.le Nat _ _ _) _ ?_ ?_); (· (first | exact Nat.zero_le _ | exact Nat.le_of_ble_eq_true rfl | omega)); (conv => whnf))
      | ((with_reducible refine @And.intro (@LT.lt Nat _ _ _) _ ?_ ?_); (· omega); (conv => whnf))
      | ((with_reducible refine @And.intro (∃ _, _ = _) _ ?_ ?_); (· exact ⟨_, rfl⟩); (conv => whnf))
      | ((with_reducible refine @And.intro (_ ∨ _) _ ?_ ?_); (· (first | exact Or.inl rfl | exact Or.inr rfl | exact t_b01 _ | assumption)); (conv => whnf))
      | ((with_reducible refine @And.intro (¬ (_ = _)) _ ?_ ?_); (· first | assumption | (with_reducible assumption)); (conv => whnf))
      | (refine hX _ _ _ _ _ _ ?_; (conv => whnf); fail_if_success show False)
      | (rw [c_si]; (conv => whnf))
      | (refine ⟨_, rfl, ?_⟩; (conv => whnf))
      | (refine ⟨_, _, rfl, ?_⟩; (conv => whnf))
      | (refine ⟨_, _, _, rfl, ?_⟩; (conv => whnf))
      | (refine ⟨_, _, _, _, rfl, ?_⟩; (conv => whnf))
      | (rw [c_tl hr]; (conv => whnf))
      | (rw [c_t7 hr]; (conv => whnf))
      | (rw [c_tf hr (by decide)]; (conv => whnf))
      | (rw [c_t0 hr]; (conv => whnf))
      | (rw [c_t1 hr]; (conv => whnf))
      | (rw [c_t2 hr]; (conv => whnf))
      | (rw [c_t3 hr]; (conv => whnf))
      | (rw [c_t4 hr]; (conv => whnf))
      | (rw [c_t5 hr]; (conv => whnf))
      | (refine And.intro ⟨_, c_tl hr⟩ ?_; (conv => whnf))
      | fail)
    refine And.intro (fun c => ?_) (fun c => ?_) <;> (conv => whnf)
    · have : k = c_p I := Nat.le_antisymm h1 (t_kge hmM c (by omega) (by omega))
      subst this
      have hwM : g_w (cA M r) := by rw [hA, hDe]; exact g_w_die hw (by omega)
      have fin := hQ M hM ⟨hr, hM.ok hr hok, fun j hj => ?_, hwM, hM.lw hr hlw⟩ (by rw [hA, hDe])
      · rw [show g_work (cK I L) (cA I r) h = B from hB.symm] at fin
        repeat' (first
          | ((with_reducible refine @And.intro (vp_in _ _) _ ?_ ?_); (· (first | with_reducible assumption | ((with_reducible refine t_vin ?_); decide) | ((with_reducible refine vp_in_nI ?_ ?_) <;> first | omega | decide) | (simp (disch := omega) only [xl_n, xl_m, nI_dec, nI_sb, nI_add, pk_mul]; (with_reducible refine vp_in_nI ?_ ?_) <;> first | omega | decide))); (conv => whnf))
          | (refine And.intro (by first | with_reducible assumption | exact (show cL _ _ = _ from rfl) | decide) ?_; (conv => whnf))
          | ((with_reducible refine @And.intro (_ = _) _ ?_ ?_); (· rfl); (conv => whnf))
          | ((with_reducible refine @And.intro (@LE.le Nat _ _ _) _ ?_ ?_); (· (first | exact Nat.zero_le _ | exact Nat.le_of_ble_eq_true rfl | omega)); (conv => whnf))
          | ((with_reducible refine @And.intro (@LT.lt Nat _ _ _) _ ?_ ?_); (· omega); (conv => whnf))
          | ((with_reducible refine @And.intro (∃ _, _ = _) _ ?_ ?_); (· exact ⟨_, rfl⟩); (conv => whnf))
          | ((with_reducible refine @And.intro (_ ∨ _) _ ?_ ?_); (· (first | exact Or.inl rfl | exact Or.inr rfl | exact t_b01 _ | assumption)); (conv => whnf))
          | ((with_reducible refine @And.intro (¬ (_ = _)) _ ?_ ?_); (· first | assumption | (with_reducible assumption)); (conv => whnf))
          | (refine hX _ _ _ _ _ _ ?_; (conv => whnf); fail_if_success show False)
          | (rw [c_si]; (conv => whnf))
          | (refine ⟨_, rfl, ?_⟩; (conv => whnf))
          | (refine ⟨_, _, rfl, ?_⟩; (conv => whnf))
          | (refine ⟨_, _, _, rfl, ?_⟩; (conv => whnf))
          | (refine ⟨_, _, _, _, rfl, ?_⟩; (conv => whnf))
          | (refine And.intro (fun c => ?_) (fun c => ?_) <;> (first | (exact absurd c (by decide +kernel)) | (conv => whnf)))
          | fail)
        exact fin
      · rw [(hM.h hr).1] at hj
        have hy : M r 6 = I r 6 := by
          have h1 : gy (cA M r) = gy (g_die (cK I L) (cA I r) h) := by rw [hA, hDe]
          have h2 : ∀ n (T : gT), gy (t_fold n (fun p T => if t_has (gw T p) h = true then g_cease T p h else T) T) = gy T := by
            intro n T
            induction n with
            | zero => rfl
            | succ n ih =>
              rw [t_fold_s]
              split
              · exact ih
              · exact ih
          exact h1.trans (h2 _ _)
        rw [cA_gd (by omega), h0, xm_u2_at, hM 31 (by decide) (by omega) (by omega), hy]
        by_cases q : j = h
        · rw [if_pos q, if_pos (by rfl)]
        · rw [if_neg q]
          have := his j hj
          rw [cA_gd (by omega)] at this
          exact this
    · have hk : k < c_p I := t_klt hmM c (by omega)
      have x44 := x44 hk
      have hb := hBk k hk
      have hrow : M (10 * r + 1) k = gw (cA I r) k := by rw [← hDq k k (Nat.le_refl _), ← hA, cA_gw (by omega)]
      rw [hDs, hDq k k (Nat.le_refl _)] at x44
      repeat' (first
        | ((with_reducible refine @And.intro (vp_in _ _) _ ?_ ?_); (· (first | with_reducible assumption | ((with_reducible refine t_vin ?_); decide) | ((with_reducible refine vp_in_nI ?_ ?_) <;> first | omega | decide) | (simp (disch := omega) only [xl_n, xl_m, nI_dec, nI_sb, nI_add, pk_mul]; (with_reducible refine vp_in_nI ?_ ?_) <;> first | omega | decide))); (conv => whnf))
        | (refine And.intro (by first | with_reducible assumption | exact (show cL _ _ = _ from rfl) | decide) ?_; (conv => whnf))
        | ((with_reducible refine @And.intro (_ = _) _ ?_ ?_); (· rfl); (conv => whnf))
        | ((with_reducible refine @And.intro (@LE.le Nat _ _ _) _ ?_ ?_); (· (first | exact Nat.zero_le _ | exact Nat.le_of_ble_eq_true rfl | omega)); (conv => whnf))
        | ((with_reducible refine @And.intro (@LT.lt Nat _ _ _) _ ?_ ?_); (· omega); (conv => whnf))
        | ((with_reducible refine @And.intro (∃ _, _ = _) _ ?_ ?_); (· exact ⟨_, rfl⟩); (conv => whnf))
        | ((with_reducible refine @And.intro (_ ∨ _) _ ?_ ?_); (· (first | exact Or.inl rfl | exact Or.inr rfl | exact t_b01 _ | assumption)); (conv => whnf))
        | ((with_reducible refine @And.intro (¬ (_ = _)) _ ?_ ?_); (· first | assumption | (with_reducible assumption)); (conv => whnf))
        | (refine hX _ _ _ _ _ _ ?_; (conv => whnf); fail_if_success show False)
        | (rw [c_si]; (conv => whnf))
        | (refine ⟨_, rfl, ?_⟩; (conv => whnf))
        | (refine ⟨_, _, rfl, ?_⟩; (conv => whnf))
        | (refine ⟨_, _, _, rfl, ?_⟩; (conv => whnf))
        | (refine ⟨_, _, _, _, rfl, ?_⟩; (conv => whnf))
        | (rw [c_tl hr]; (conv => whnf))
        | (rw [c_t7 hr]; (conv => whnf))
        | (rw [c_tf hr (by decide)]; (conv => whnf))
        | (rw [c_t0 hr]; (conv => whnf))
        | (rw [c_t1 hr]; (conv => whnf))
        | (rw [c_t2 hr]; (conv => whnf))
        | (rw [c_t3 hr]; (conv => whnf))
        | (rw [c_t4 hr]; (conv => whnf))
        | (rw [c_t5 hr]; (conv => whnf))
        | (refine And.intro ⟨_, c_tl hr⟩ ?_; (conv => whnf))
        | (refine And.intro (fun c => ?_) (fun c => ?_) <;> (first | (exact absurd c (by decide +kernel)) | (conv => whnf)))
        | fail)
      · have c1 : ¬ (B >>> (nI k &&& 31)) &&& nI 1 = nI 1 := c
        exact x44 M hM h0 (by rw [if_neg (by rw [← hb]; unfold t_has; rw [decide_eq_false c1]; decide)]; exact hA)
      · have c1 : (B >>> (nI k &&& 31)) &&& nI 1 = nI 1 := Classical.not_not.mp c
        refine x44 _ ((hM.tr (c_sc.u (by omega))).tr (c_sc.u (by omega))) ?_ ?_
        · rw [← h0]
          exact funext fun j => by rw [xm_u2_ne (by omega), xm_u2_ne (by omega)]
        · rw [if_pos (by rw [← hb]; unfold t_has; rw [decide_eq_true c1]), cA_l hrn.1 (by omega), cA_w hrn.1 (by omega), hA]
          have hv : M (10 * r + 1) k = gw (D k) k := by rw [← hA, cA_gw (by omega)]
          rw [hv]
          rfl
  have fin := loop 0 (Nat.zero_le _) (xm_u2 I (10 * r) h (nI 2)) (c_sc.u (by omega)) rfl (by rw [hD0, cA_d hrn.1 (by omega)])
  clear loop
  subst hB
  refine ⟨rfl, ?_⟩
  repeat' (first
    | ((with_reducible refine @And.intro (vp_in _ _) _ ?_ ?_); (· (first | with_reducible assumption | ((with_reducible refine t_vin ?_); decide) | ((with_reducible refine vp_in_nI ?_ ?_) <;> first | omega | decide) | (simp (disch := omega) only [xl_n, xl_m, nI_dec, nI_sb, nI_add, pk_mul]; (with_reducible refine vp_in_nI ?_ ?_) <;> first | omega | decide))); (conv => whnf))
    | (refine And.intro (by first | with_reducible assumption | exact (show cL _ _ = _ from rfl) | decide) ?_; (conv => whnf))
    | ((with_reducible refine @And.intro (_ = _) _ ?_ ?_); (· rfl); (conv => whnf))
    | ((with_reducible refine @And.intro (@LE.le Nat _ _ _) _ ?_ ?_); (· (first | exact Nat.zero_le _ | exact Nat.le_of_ble_eq_true rfl | omega)); (conv => whnf))
    | ((with_reducible refine @And.intro (@LT.lt Nat _ _ _) _ ?_ ?_); (· omega); (conv => whnf))
    | ((with_reducible refine @And.intro (∃ _, _ = _) _ ?_ ?_); (· exact ⟨_, rfl⟩); (conv => whnf))
    | ((with_reducible refine @And.intro (_ ∨ _) _ ?_ ?_); (· (first | exact Or.inl rfl | exact Or.inr rfl | exact t_b01 _ | assumption)); (conv => whnf))
    | ((with_reducible refine @And.intro (¬ (_ = _)) _ ?_ ?_); (· first | assumption | (with_reducible assumption)); (conv => whnf))
    | (refine hX _ _ _ _ _ _ ?_; (conv => whnf); fail_if_success show False)
    | (rw [c_si]; simp (disch := omega) only [xl_n, xl_m, nI_dec, nI_sb, xl_0, xl_1, cW_i, Nat.add_zero, Nat.reduceAdd, Nat.reduceMul, t_bn0, t_bn1, Classical.not_not, t_lt, nI_add, nI_1, pk_mul, nI_clamp, c_si, nI_eq, nI_leI, nM_ne, nM_ne, xm_u2_ne, xm_u2_at, reduceIte, Nat.reduceEqDiff]; (conv => whnf))
    | (refine ⟨_, rfl, ?_⟩; (conv => whnf))
    | (refine ⟨_, _, rfl, ?_⟩; (conv => whnf))
    | (refine ⟨_, _, _, rfl, ?_⟩; (conv => whnf))
    | (refine ⟨_, _, _, _, rfl, ?_⟩; (conv => whnf))
    | (rw [c_tl hr]; (conv => whnf))
    | (rw [c_t7 hr]; (conv => whnf))
    | (rw [c_tf hr (by decide)]; (conv => whnf))
    | (rw [c_t0 hr]; (conv => whnf))
    | (rw [c_t1 hr]; (conv => whnf))
    | (rw [c_t2 hr]; (conv => whnf))
    | (rw [c_t3 hr]; (conv => whnf))
    | (rw [c_t4 hr]; (conv => whnf))
    | (rw [c_t5 hr]; (conv => whnf))
    | (refine And.intro ⟨_, c_tl hr⟩ ?_; (conv => whnf))
    | (refine And.intro (fun c => ?_) (fun c => ?_) <;> (first | (exact absurd c (by decide +kernel)) | (conv => whnf)))
    | fail)
  exact fin
theorem ct_X10_dies : xm_Ct cI yX10_dies (ws_ yX10_dies cX10_dies 4 (some .int)) 3 0 0 S_X10_dies := xm_enter (rt := 0) (init := false) (by decide +kernel) rfl (fun h => by cases h) (Or.inl ⟨rfl, rfl⟩) (oX10_dies) body_X10_dies
theorem cv_X10_dies {own : String} {cc : ByteArray} {fr pc idx : Nat} (hdg : decode cc pc = .ok (.invokevirtual idx, 3)) (hl : xm_ml own idx yX10_dies) (hfr : 3 < fr) : xm_CallOK cI own cc fr pc (pc + 3) 2 0 0 (xm_this 7 S_X10_dies) := xm_callV 7 cI_good (ct_X10_dies) hdg hl q885 q886 q144 q887 rfl rfl (by decide +kernel) hfr (by decide)
theorem g_gd_next (T : gT) (h : Nat) : gd (g_next T) h = gd T h := rfl
abbrev bX10_begin_0 : List xE := [(.aload_n 0, 1, 0, 0, 0), (.dup, 2, 0, 0, 0), (.getfield 34, 5, 7, 6, 0), (.iconst 1, 6, 0, 0, 0), (.iadd, 7, 0, 0, 0), (.putfield 34, 10, 7, 6, 0), (.iconst 0, 11, 0, 0, 0), (.istore_n 1, 12, 0, 0, 0)]
abbrev bX10_begin_12 : List xE := [(.iload_n 1, 13, 0, 0, 0), (.aload_n 0, 14, 0, 0, 0), (.getfield 3, 17, 7, 7, 1), (.getfield 38, 20, 0, 0, 1), (.getfield 42, 23, 1, 11, 0), (.if_icmp .ge 44, 26, 0, 67, 0), (.aload_n 0, 27, 0, 0, 0), (.getfield 15, 30, 7, 0, 1), (.iload_n 1, 31, 0, 0, 0), (.iaload, 32, 0, 0, 0), (.ifCond .ne 29, 35, 0, 61, 0), (.aload_n 0, 36, 0, 0, 0), (.getfield 3, 39, 7, 7, 1), (.getfield 38, 42, 0, 0, 1), (.getfield 47, 45, 1, 1, 1), (.iload_n 1, 46, 0, 0, 0), (.iaload, 47, 0, 0, 0), (.aload_n 0, 48, 0, 0, 0), (.getfield 34, 51, 7, 6, 0), (.if_icmp .gt 10, 54, 0, 61, 0), (.aload_n 0, 55, 0, 0, 0), (.getfield 15, 58, 7, 0, 1), (.iload_n 1, 59, 0, 0, 0), (.iconst 1, 60, 0, 0, 0), (.iastore, 61, 0, 0, 0)]
abbrev bX10_begin_61 : List xE := [(.iinc 1 1, 64, 0, 0, 0), (.goto (-52), 67, 0, 12, 0)]
abbrev bX10_begin_67 : List xE := [(.return_, 68, 0, 0, 0)]
abbrev kX10_begin : List (Nat × List xE) := [(0, bX10_begin_0), (12, bX10_begin_12), (61, bX10_begin_61), (67, bX10_begin_67)]
abbrev lX10_begin : List (Nat × Nat × Nat × xS) := []
theorem oX10_begin_0  : xm_okb cI RX10 cX10_begin false 1 lX10_begin bX10_begin_0 0 := xo_0 dX10_begin_0 rfl trivial (xo_0 dX10_begin_1 rfl trivial (xo_0 dX10_begin_2 rfl (xm_fg_of (Or.inl q674) (by decide) rfl (by decide) rfl rfl (Or.inl rfl) rfl) (xo_0 dX10_begin_5 rfl trivial (xo_0 dX10_begin_6 rfl trivial (xo_0 dX10_begin_7 rfl (xm_fp_of (xm_fg_of (Or.inl q674) (by decide) rfl (by decide) rfl rfl (Or.inl rfl) rfl) (by decide) rfl (Or.inl ⟨rfl, rfl⟩) rfl) (xo_0 dX10_begin_10 rfl trivial (xo_0 dX10_begin_11 rfl trivial (xo_n))))))))
theorem oX10_begin_12  : xm_okb cI RX10 cX10_begin false 1 lX10_begin bX10_begin_12 12 := xo_0 dX10_begin_12 rfl trivial (xo_0 dX10_begin_13 rfl trivial (xo_1 dX10_begin_14 rfl (xm_fg_of (Or.inl q676) (by decide) rfl (by decide) rfl rfl (Or.inl rfl) rfl) (xo_1 dX10_begin_17 rfl (xm_fg_of (Or.inr ⟨_, q717⟩) (by decide) rfl (by decide) rfl rfl (Or.inl rfl) rfl) (xo_0 dX10_begin_20 rfl (xm_fg_of (Or.inr ⟨_, q553⟩) (by decide) rfl (by decide) rfl rfl (Or.inl rfl) rfl) (xo_0 dX10_begin_23 rfl rfl (xo_0 dX10_begin_26 rfl trivial (xo_1 dX10_begin_27 rfl (xm_fg_of (Or.inl q662) (by decide) rfl (by decide) rfl rfl (Or.inl rfl) rfl) (xo_0 dX10_begin_30 rfl trivial (xo_0 dX10_begin_31 rfl trivial (xo_0 dX10_begin_32 rfl rfl (xo_0 dX10_begin_35 rfl trivial (xo_1 dX10_begin_36 rfl (xm_fg_of (Or.inl q676) (by decide) rfl (by decide) rfl rfl (Or.inl rfl) rfl) (xo_1 dX10_begin_39 rfl (xm_fg_of (Or.inr ⟨_, q717⟩) (by decide) rfl (by decide) rfl rfl (Or.inl rfl) rfl) (xo_1 dX10_begin_42 rfl (xm_fg_of (Or.inr ⟨_, q519⟩) (by decide) rfl (by decide) rfl rfl (Or.inl rfl) rfl) (xo_0 dX10_begin_45 rfl trivial (xo_0 dX10_begin_46 rfl trivial (xo_0 dX10_begin_47 rfl trivial (xo_0 dX10_begin_48 rfl (xm_fg_of (Or.inl q674) (by decide) rfl (by decide) rfl rfl (Or.inl rfl) rfl) (xo_0 dX10_begin_51 rfl rfl (xo_0 dX10_begin_54 rfl trivial (xo_1 dX10_begin_55 rfl (xm_fg_of (Or.inl q662) (by decide) rfl (by decide) rfl rfl (Or.inl rfl) rfl) (xo_0 dX10_begin_58 rfl trivial (xo_0 dX10_begin_59 rfl trivial (xo_0 dX10_begin_60 rfl trivial (xo_n)))))))))))))))))))))))))
theorem oX10_begin_61  : xm_okb cI RX10 cX10_begin false 1 lX10_begin bX10_begin_61 61 := xo_0 dX10_begin_61 rfl trivial (xo_0 dX10_begin_64 rfl rfl (xo_n))
theorem oX10_begin_67  : xm_okb cI RX10 cX10_begin false 1 lX10_begin bX10_begin_67 67 := xo_0 dX10_begin_67 rfl trivial (xo_n)
theorem oX10_begin  : ∀ q ∈ kX10_begin, xm_okb cI RX10 cX10_begin false 1 lX10_begin q.2 q.1 := by
  intro q hq
  simp only [List.mem_cons, List.not_mem_nil, or_false] at hq
  rcases hq with rfl | rfl | rfl | rfl
  · exact oX10_begin_0  
  · exact oX10_begin_12  
  · exact oX10_begin_61  
  · exact oX10_begin_67  
def S_X10_begin : xS := cU fun as P X I Q QX => ∃ r L n, as = [.ref r] ∧ c_ts P X I r L ∧ I r 6 = nI n ∧ n < 100000 ∧ ∀ J, c_sc r I J → c_ts P X J r L → cA J r = g_next (cA I r) → Q none J
theorem body_X10_begin : xm_Body 2 2 0 0 [] lX10_begin kX10_begin S_X10_begin := by
  intro X avs w Q QX hX0 hS
  have hG := xm_go [] hX0
  have hX := xm_go [12, 61] hX0
  clear hX0
  obtain ⟨P, Z, I, rfl, r, L, n, rfl, ⟨hr, hok, his, hw, hlw⟩, hy, hn1, hQ⟩ := hS
  obtain ⟨hn, h9, hm, h8⟩ := id hok
  have hrn := hr.ne
  obtain ⟨st, hst⟩ : ∃ st : Nat → Int32, st = fun j => if gd (cA I r) j = true then nI 2 else if I 31 j ≤ nI (n + 1) then nI 1 else nI 0 := ⟨_, rfl⟩
  have loop : ∀ k, k ≤ c_h I → ∀ M, c_sc r I M → M r 6 = nI (n + 1) → (∀ j, 1 ≤ j → j < 6 → M (10 * r + j) = I (10 * r + j)) → (∀ j, M (10 * r) j = if j < k then st j else I (10 * r) j) → X 12 [some (.ref r), some (.int (nI k))] [] (cW P Z M) 0 0 := by
    refine t_for fun k h1 ih M hM hM6 hMj hM0 => ?_
    have hnM : M 1 11 = nI (c_h I) := by rw [hM.e1 hr]; exact hn
    have x61 : k < c_h I → ∀ N, c_sc r I N → N r 6 = nI (n + 1) → (∀ j, 1 ≤ j → j < 6 → N (10 * r + j) = I (10 * r + j)) → (∀ j, N (10 * r) j = if j < k + 1 then st j else I (10 * r) j) → X 61 [some (.ref r), some (.int (nI k))] [] (cW P Z N) 0 0 := by
      intro hk N n1 n2 n3 n4
      have := ih (k + 1) (by omega) (by omega) N n1 n2 n3 n4
      clear ih
      refine hG _ _ _ _ _ _ ?_
      (conv => whnf)
      repeat' (first
        | ((with_reducible refine @And.intro (vp_in _ _) _ ?_ ?_); (· (first | with_reducible assumption | ((with_reducible refine t_vin ?_); decide) | ((with_reducible refine vp_in_nI ?_ ?_) <;> first | omega | decide) | (simp (disch := omega) only [xl_n, xl_m, nI_dec, nI_sb, nI_add, pk_mul]; (with_reducible refine vp_in_nI ?_ ?_) <;> first | omega | decide))); (conv => whnf))
        | (refine And.intro (by first | with_reducible assumption | exact (show cL _ _ = _ from rfl) | decide) ?_; (conv => whnf))
        | ((with_reducible refine @And.intro (_ = _) _ ?_ ?_); (· rfl); (conv => whnf))
        | ((with_reducible refine @And.intro (@LE.le Nat _ _ _) _ ?_ ?_); (· (first | exact Nat.zero_le _ | exact Nat.le_of_ble_eq_true rfl | omega)); (conv => whnf))
        | ((with_reducible refine @And.intro (@LT.lt Nat _ _ _) _ ?_ ?_); (· omega); (conv => whnf))
        | ((with_reducible refine @And.intro (∃ _, _ = _) _ ?_ ?_); (· exact ⟨_, rfl⟩); (conv => whnf))
        | ((with_reducible refine @And.intro (_ ∨ _) _ ?_ ?_); (· (first | exact Or.inl rfl | exact Or.inr rfl | exact t_b01 _ | assumption)); (conv => whnf))
        | ((with_reducible refine @And.intro (¬ (_ = _)) _ ?_ ?_); (· first | assumption | (with_reducible assumption)); (conv => whnf))
        | (refine hX _ _ _ _ _ _ ?_; (conv => whnf); fail_if_success show False)
        | (rw [c_si]; (conv => whnf))
        | (refine ⟨_, rfl, ?_⟩; (conv => whnf))
        | (refine ⟨_, _, rfl, ?_⟩; (conv => whnf))
        | (refine ⟨_, _, _, rfl, ?_⟩; (conv => whnf))
        | (refine ⟨_, _, _, _, rfl, ?_⟩; (conv => whnf))
        | (refine And.intro (fun c => ?_) (fun c => ?_) <;> (first | (exact absurd c (by decide +kernel)) | (conv => whnf)))
        | fail)
      clear hX hG
      simp (disch := omega) only [xl_n, xl_m, nI_dec, nI_sb, xl_0, xl_1, cW_i, Nat.add_zero, Nat.reduceAdd, Nat.reduceMul, t_bn0, t_bn1, Classical.not_not, t_lt, nI_add, nI_1, pk_mul, nI_clamp, c_si, nI_eq, nI_leI, nM_ne, nM_ne, xm_set] at *
      exact this
    clear ih
    refine hG _ _ _ _ _ _ ?_
    (conv => whnf)
    repeat' (first
      | ((with_reducible refine @And.intro (vp_in _ _) _ ?_ ?_); (· (first | with_reducible assumption | ((with_reducible refine t_vin ?_); decide) | ((with_reducible refine vp_in_nI ?_ ?_) <;> first | omega | decide) | (simp (disch := omega) only [xl_n, xl_m, nI_dec, nI_sb, nI_add, pk_mul]; (with_reducible refine vp_in_nI ?_ ?_) <;> first | omega | decide))); (conv => whnf))
      | (refine And.intro (by first | with_reducible assumption | exact (show cL _ _ = _ from rfl) | decide) ?_; (conv => whnf))
      | ((with_reducible refine @And.intro (_ = _) _ ?_ ?_); (· rfl); (conv => whnf))
      | ((with_reducible refine @And.intro (@LE.le Nat _ _ _) _ ?_ ?_); (· (first | exact Nat.zero_le _ | exact Nat.le_of_ble_eq_true rfl | omega)); (conv => whnf))
      | ((with_reducible refine @And.intro (@LT.lt Nat _ _ _) _ ?_ ?_); (· omega); (conv => whnf))
      | ((with_reducible refine @And.intro (∃ _, _ = _) _ ?_ ?_); (· exact ⟨_, rfl⟩); (conv => whnf))
      | ((with_reducible refine @And.intro (_ ∨ _) _ ?_ ?_); (· (first | exact Or.inl rfl | exact Or.inr rfl | exact t_b01 _ | assumption)); (conv => whnf))
      | ((with_reducible refine @And.intro (¬ (_ = _)) _ ?_ ?_); (· first | assumption | (with_reducible assumption)); (conv => whnf))
      | (refine hX _ _ _ _ _ _ ?_; (conv => whnf); fail_if_success show False)
      | (rw [c_si]; (conv => whnf))
      | (refine ⟨_, rfl, ?_⟩; (conv => whnf))
      | (refine ⟨_, _, rfl, ?_⟩; (conv => whnf))
      | (refine ⟨_, _, _, rfl, ?_⟩; (conv => whnf))
      | (refine ⟨_, _, _, _, rfl, ?_⟩; (conv => whnf))
      | (rw [c_tl hr]; (conv => whnf))
      | (rw [c_t7 hr]; (conv => whnf))
      | (rw [c_tf hr (by decide)]; (conv => whnf))
      | (rw [c_t0 hr]; (conv => whnf))
      | (rw [c_t1 hr]; (conv => whnf))
      | (rw [c_t2 hr]; (conv => whnf))
      | (rw [c_t3 hr]; (conv => whnf))
      | (rw [c_t4 hr]; (conv => whnf))
      | (rw [c_t5 hr]; (conv => whnf))
      | (refine And.intro ⟨_, c_tl hr⟩ ?_; (conv => whnf))
      | fail)
    refine And.intro (fun c => ?_) (fun c => ?_) <;> (conv => whnf)
    · have : k = c_h I := Nat.le_antisymm h1 (t_kge hnM c (by omega) (by omega))
      subst this
      have hgd : ∀ j, j < c_h I → gd (cA M r) j = gd (cA I r) j := fun j hj => by
        rw [cA_gd (by omega), hM0, if_pos hj, hst]
        rcases Bool.eq_false_or_eq_true (gd (cA I r) j) with q | q
        · show decide ((if gd (cA I r) j = true then nI 2 else _) = nI 2) = _
          rw [if_pos q, q]
          rfl
        · show decide ((if gd (cA I r) j = true then nI 2 else _) = nI 2) = _
          rw [if_neg (by rw [q]; decide), q]
          split
          · exact decide_eq_false (by decide +kernel)
          · exact decide_eq_false (by decide +kernel)
      have hA : cA M r = g_next (cA I r) := by
        refine g_ext (fun q => ?_) (fun q => ?_) (fun q => ?_) (fun a q => ?_) (fun a => ?_) (fun a => ?_) ?_
        · show (if q < 8 then M (10 * r + 1) q else nI 0) = if q < 8 then I (10 * r + 1) q else nI 0
          rw [hMj 1 (by decide) (by decide)]
        · show (if q < 8 then M (10 * r + 3) q else nI 0) = if q < 8 then I (10 * r + 3) q else nI 0
          rw [hMj 3 (by decide) (by decide)]
        · show (if q < 8 then M (10 * r + 2) q else nI 0) = if q < 8 then I (10 * r + 2) q else nI 0
          rw [hMj 2 (by decide) (by decide)]
        · show (if a < 9 ∧ q < 8 then M (10 * r + 4) (8 * a + q) else nI 0) = if a < 9 ∧ q < 8 then I (10 * r + 4) (8 * a + q) else nI 0
          rw [hMj 4 (by decide) (by decide)]
        · show (if a < 9 then M (10 * r + 5) a else nI 0) = if a < 9 then I (10 * r + 5) a else nI 0
          rw [hMj 5 (by decide) (by decide)]
        · show gd (cA M r) a = gd (cA I r) a
          rcases Nat.lt_or_ge a (c_h I) with q | q
          · exact hgd a q
          · show (if a < 9 then decide (M (10 * r) a = nI 2) else false) = if a < 9 then decide (I (10 * r) a = nI 2) else false
            have e : M (10 * r) a = I (10 * r) a := by rw [hM0, if_neg (by omega)]
            rw [e]
        · show M r 6 = I r 6 + nI 1
          rw [hM6, hy, nI_add]
      have fin := hQ M hM ⟨hr, hM.ok hr hok, fun j hj => by
        rw [(hM.h hr).1] at hj
        rw [hgd j hj, hM0, if_pos hj, hst, hM 31 (by decide) (by omega) (by omega), hM6], by rw [hA]; exact hw, hM.lw hr hlw⟩ hA
      clear x61
      repeat' (first
        | ((with_reducible refine @And.intro (vp_in _ _) _ ?_ ?_); (· (first | with_reducible assumption | ((with_reducible refine t_vin ?_); decide) | ((with_reducible refine vp_in_nI ?_ ?_) <;> first | omega | decide) | (simp (disch := omega) only [xl_n, xl_m, nI_dec, nI_sb, nI_add, pk_mul]; (with_reducible refine vp_in_nI ?_ ?_) <;> first | omega | decide))); (conv => whnf))
        | (refine And.intro (by first | with_reducible assumption | exact (show cL _ _ = _ from rfl) | decide) ?_; (conv => whnf))
        | ((with_reducible refine @And.intro (_ = _) _ ?_ ?_); (· rfl); (conv => whnf))
        | ((with_reducible refine @And.intro (@LE.le Nat _ _ _) _ ?_ ?_); (· (first | exact Nat.zero_le _ | exact Nat.le_of_ble_eq_true rfl | omega)); (conv => whnf))
        | ((with_reducible refine @And.intro (@LT.lt Nat _ _ _) _ ?_ ?_); (· omega); (conv => whnf))
        | ((with_reducible refine @And.intro (∃ _, _ = _) _ ?_ ?_); (· exact ⟨_, rfl⟩); (conv => whnf))
        | ((with_reducible refine @And.intro (_ ∨ _) _ ?_ ?_); (· (first | exact Or.inl rfl | exact Or.inr rfl | exact t_b01 _ | assumption)); (conv => whnf))
        | ((with_reducible refine @And.intro (¬ (_ = _)) _ ?_ ?_); (· first | assumption | (with_reducible assumption)); (conv => whnf))
        | (refine hX _ _ _ _ _ _ ?_; (conv => whnf); fail_if_success show False)
        | (rw [c_si]; (conv => whnf))
        | (refine ⟨_, rfl, ?_⟩; (conv => whnf))
        | (refine ⟨_, _, rfl, ?_⟩; (conv => whnf))
        | (refine ⟨_, _, _, rfl, ?_⟩; (conv => whnf))
        | (refine ⟨_, _, _, _, rfl, ?_⟩; (conv => whnf))
        | (refine And.intro (fun c => ?_) (fun c => ?_) <;> (first | (exact absurd c (by decide +kernel)) | (conv => whnf)))
        | fail)
      exact fin
    · have hk : k < c_h I := t_klt hnM c (by omega)
      have x61 := x61 hk
      have e0 : M (10 * r) k = I (10 * r) k := by rw [hM0, if_neg (by omega)]
      have his := his k hk
      have e31 : M 31 k = I 31 k := by rw [hM 31 (by decide) (by omega) (by omega)]
      have nx0 : I (10 * r) k = st k → X 61 [some (.ref r), some (.int (nI k))] [] (cW P Z M) 0 0 := fun e => x61 M hM hM6 hMj fun j => by
        rw [hM0]
        by_cases q : j = k
        · subst q
          rw [if_neg (by omega), if_pos (by omega), e]
        · by_cases q2 : j < k
          · rw [if_pos q2, if_pos (by omega)]
          · rw [if_neg q2, if_neg (by omega)]
      have nx1 : st k = nI 1 → X 61 [some (.ref r), some (.int (nI k))] [] (cW P Z (xm_u2 M (10 * r) k (nI 1))) 0 0 := fun e => x61 _ (hM.tr (c_sc.u (by omega))) (by rw [xm_u2_ne (by omega)]; exact hM6) (fun j j1 j6 => by rw [← hMj j j1 j6]; exact funext fun i => xm_u2_ne (by omega) i) fun j => by
        rw [xm_u2_at]
        by_cases q : j = k
        · subst q
          rw [if_pos rfl, if_pos (by omega), e]
        · rw [if_neg q, hM0]
          by_cases q2 : j < k
          · rw [if_pos q2, if_pos (by omega)]
          · rw [if_neg q2, if_neg (by omega)]
      clear x61
      have hle : ∀ a : Int32, a ≤ nI n → a ≤ nI (n + 1) := fun a h => Int32.le_trans h ((nI_leI (by omega) (by omega)).mpr (by omega))
      have hgo : M (10 * r) k = nI 0 ∧ M 31 k ≤ nI (n + 1) → st k = nI 1 := by
        rintro ⟨g1, g2⟩
        rw [e0, his] at g1
        rw [hst]
        show (if gd (cA I r) k = true then nI 2 else _) = nI 1
        rcases Bool.eq_false_or_eq_true (gd (cA I r) k) with q | q
        · rw [if_pos q] at g1
          exact absurd g1 (by decide +kernel)
        · rw [if_neg (by rw [q]; decide), if_pos (by rw [← e31]; exact g2)]
      have hst0 : ¬ (M (10 * r) k = nI 0 ∧ M 31 k ≤ nI (n + 1)) → I (10 * r) k = st k := by
        intro g
        rw [e0, e31] at g
        rw [his] at g ⊢
        rw [hst]
        show _ = (if gd (cA I r) k = true then nI 2 else _)
        rcases Bool.eq_false_or_eq_true (gd (cA I r) k) with q | q
        · rw [if_pos q, if_pos q]
        · have q0 : ¬ gd (cA I r) k = true := by rw [q]; decide
          rw [if_neg q0] at g ⊢
          rw [if_neg q0, hy] at *
          by_cases q1 : I 31 k ≤ nI n
          · rw [if_pos q1, if_pos (hle _ q1)]
          · rw [if_neg q1] at g ⊢
            rw [if_neg (fun q2 => g ⟨rfl, q2⟩)]
      have e6 : (cW P Z M).2.1 r 6 = nI (n + 1) := hM6
      have ek : (nI k).toNatClampNeg = k := nI_clamp (by omega)
      repeat' (first
        | ((with_reducible refine @And.intro (vp_in _ _) _ ?_ ?_); (· (first | with_reducible assumption | ((with_reducible refine t_vin ?_); decide) | ((with_reducible refine vp_in_nI ?_ ?_) <;> first | omega | decide) | (simp (disch := omega) only [xl_n, xl_m, nI_dec, nI_sb, nI_add, pk_mul]; (with_reducible refine vp_in_nI ?_ ?_) <;> first | omega | decide))); (conv => whnf))
        | (refine And.intro (by first | with_reducible assumption | exact (show cL _ _ = _ from rfl) | decide) ?_; (conv => whnf))
        | ((with_reducible refine @And.intro (_ = _) _ ?_ ?_); (· rfl); (conv => whnf))
        | ((with_reducible refine @And.intro (@LE.le Nat _ _ _) _ ?_ ?_); (· (first | exact Nat.zero_le _ | exact Nat.le_of_ble_eq_true rfl | omega)); (conv => whnf))
        | ((with_reducible refine @And.intro (@LT.lt Nat _ _ _) _ ?_ ?_); (· omega); (conv => whnf))
        | ((with_reducible refine @And.intro (∃ _, _ = _) _ ?_ ?_); (· exact ⟨_, rfl⟩); (conv => whnf))
        | ((with_reducible refine @And.intro (_ ∨ _) _ ?_ ?_); (· (first | exact Or.inl rfl | exact Or.inr rfl | exact t_b01 _ | assumption)); (conv => whnf))
        | ((with_reducible refine @And.intro (¬ (_ = _)) _ ?_ ?_); (· first | assumption | (with_reducible assumption)); (conv => whnf))
        | (refine hX _ _ _ _ _ _ ?_; (conv => whnf); fail_if_success show False)
        | (rw [c_si]; simp (disch := omega) only [xl_n, xl_m, nI_dec, nI_sb, xl_0, xl_1, cW_i, Nat.add_zero, Nat.reduceAdd, Nat.reduceMul, t_bn0, t_bn1, Classical.not_not, t_lt, nI_add, nI_1, pk_mul, nI_clamp, c_si, nI_eq, nI_leI, nM_ne, nM_ne, xm_u2_ne, xm_u2_at, reduceIte, Nat.reduceEqDiff]; (conv => whnf))
        | (refine ⟨_, rfl, ?_⟩; (conv => whnf))
        | (refine ⟨_, _, rfl, ?_⟩; (conv => whnf))
        | (refine ⟨_, _, _, rfl, ?_⟩; (conv => whnf))
        | (refine ⟨_, _, _, _, rfl, ?_⟩; (conv => whnf))
        | (rw [e6]; (conv => whnf))
        | (rw [c_tl hr]; (conv => whnf))
        | (rw [c_t7 hr]; (conv => whnf))
        | (rw [c_tf hr (by decide)]; (conv => whnf))
        | (rw [c_t0 hr]; (conv => whnf))
        | (rw [c_t1 hr]; (conv => whnf))
        | (rw [c_t2 hr]; (conv => whnf))
        | (rw [c_t3 hr]; (conv => whnf))
        | (rw [c_t4 hr]; (conv => whnf))
        | (rw [c_t5 hr]; (conv => whnf))
        | (refine And.intro ⟨_, c_tl hr⟩ ?_; (conv => whnf))
        | (refine And.intro (fun c => ?_) (fun c => ?_) <;> (first | (exact absurd c (by decide +kernel)) | (conv => whnf)))
        | fail)
      · exact nx0 (hst0 (fun g => by
          have c1 : ¬ M (10 * r) (nI k).toNatClampNeg = 0 := c
          rw [ek] at c1
          exact c1 g.1))
      · exact nx0 (hst0 (fun g => by
          have c1 : nI (n + 1) < M 31 (nI k).toNatClampNeg := c
          rw [ek] at c1
          exact absurd g.2 (Int32.not_le.mpr c1)))
      · refine nx1 (hgo ⟨?_, ?_⟩)
        · have c0 := (by assumption : ¬ (fun x : Int32 => ¬ x = 0) ((cW P Z M).2.1 (10 * r + 0) (nI k).toNatClampNeg))
          rw [ek] at c0
          exact Classical.not_not.mp c0
        · have c1 : ¬ nI (n + 1) < M 31 (nI k).toNatClampNeg := c
          rw [ek] at c1
          exact Int32.not_lt.mp c1
  have fin := loop 0 (Nat.zero_le _) (xm_u2 I r 6 (nI (n + 1))) (c_sc.u (by omega)) (by rw [xm_u2_at, if_pos rfl]) (fun j j1 j6 => funext fun i => xm_u2_ne (by omega) i) (fun j => by rw [xm_u2_ne (by omega), if_neg (by omega)])
  clear loop
  have e6 : I r 6 + Int32.ofInt 1 = nI (n + 1) := by rw [hy, xl_n.2.1, nI_add]
  have fin : X 12 [some (.ref r), some (.int (nI 0))] [] (cW P Z (xm_u2 I r 6 (I r 6 + Int32.ofInt 1))) 0 0 := by
    rw [e6]
    exact fin
  refine ⟨rfl, ?_⟩
  repeat' (first
    | ((with_reducible refine @And.intro (vp_in _ _) _ ?_ ?_); (· (first | with_reducible assumption | ((with_reducible refine t_vin ?_); decide) | ((with_reducible refine vp_in_nI ?_ ?_) <;> first | omega | decide) | (simp (disch := omega) only [xl_n, xl_m, nI_dec, nI_sb, nI_add, pk_mul]; (with_reducible refine vp_in_nI ?_ ?_) <;> first | omega | decide))); (conv => whnf))
    | (refine And.intro (by first | with_reducible assumption | exact (show cL _ _ = _ from rfl) | decide) ?_; (conv => whnf))
    | ((with_reducible refine @And.intro (_ = _) _ ?_ ?_); (· rfl); (conv => whnf))
    | ((with_reducible refine @And.intro (@LE.le Nat _ _ _) _ ?_ ?_); (· (first | exact Nat.zero_le _ | exact Nat.le_of_ble_eq_true rfl | omega)); (conv => whnf))
    | ((with_reducible refine @And.intro (@LT.lt Nat _ _ _) _ ?_ ?_); (· omega); (conv => whnf))
    | ((with_reducible refine @And.intro (∃ _, _ = _) _ ?_ ?_); (· exact ⟨_, rfl⟩); (conv => whnf))
    | ((with_reducible refine @And.intro (_ ∨ _) _ ?_ ?_); (· (first | exact Or.inl rfl | exact Or.inr rfl | exact t_b01 _ | assumption)); (conv => whnf))
    | ((with_reducible refine @And.intro (¬ (_ = _)) _ ?_ ?_); (· first | assumption | (with_reducible assumption)); (conv => whnf))
    | (refine hX _ _ _ _ _ _ ?_; (conv => whnf); fail_if_success show False)
    | (rw [c_si]; (conv => whnf))
    | (refine ⟨_, rfl, ?_⟩; (conv => whnf))
    | (refine ⟨_, _, rfl, ?_⟩; (conv => whnf))
    | (refine ⟨_, _, _, rfl, ?_⟩; (conv => whnf))
    | (refine ⟨_, _, _, _, rfl, ?_⟩; (conv => whnf))
    | (rw [c_tl hr]; (conv => whnf))
    | (rw [c_t7 hr]; (conv => whnf))
    | (rw [c_tf hr (by decide)]; (conv => whnf))
    | (rw [c_t0 hr]; (conv => whnf))
    | (rw [c_t1 hr]; (conv => whnf))
    | (rw [c_t2 hr]; (conv => whnf))
    | (rw [c_t3 hr]; (conv => whnf))
    | (rw [c_t4 hr]; (conv => whnf))
    | (rw [c_t5 hr]; (conv => whnf))
    | (refine And.intro ⟨_, c_tl hr⟩ ?_; (conv => whnf))
    | (refine And.intro (fun c => ?_) (fun c => ?_) <;> (first | (exact absurd c (by decide +kernel)) | (conv => whnf)))
    | fail)
  exact fin
theorem ct_X10_begin : xm_Ct cI yX10_begin (ws_ yX10_begin cX10_begin 2 none) 1 0 0 S_X10_begin := xm_enter (rt := 2) (init := false) (by decide +kernel) rfl (fun h => by cases h) (Or.inr (Or.inr (Or.inl ⟨rfl, rfl⟩))) (oX10_begin) body_X10_begin
theorem cv_X10_begin {own : String} {cc : ByteArray} {fr pc idx : Nat} (hdg : decode cc pc = .ok (.invokevirtual idx, 3)) (hl : xm_ml own idx yX10_begin) (hfr : 1 < fr) : xm_CallOK cI own cc fr pc (pc + 3) 1 0 0 (xm_this 7 S_X10_begin) := xm_callV 7 cI_good (ct_X10_begin) hdg hl q877 q878 q144 q879 rfl rfl (by decide +kernel) hfr (by decide)
