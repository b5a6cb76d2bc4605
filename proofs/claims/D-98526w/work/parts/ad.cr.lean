/-! ===== the component: now and base change ===== -/
set_option maxRecDepth 100000
def c_kw (I J : tI) : Prop := ∀ b, (b = 0 ∨ b = 1 ∨ b = 3 ∨ b = 4 ∨ (8 ≤ b ∧ b < 17) ∨ (30 ≤ b ∧ b < 50) ∨ 80 ≤ b) → J b = I b
section
variable {P : cP} {Z : cX} {I J : tI} {L : List lC}
theorem c_kw.hp (h : c_kw I J) : c_h J = c_h I ∧ c_p J = c_p I := by
  unfold c_h c_p
  rw [h 1 (by omega)]
  exact ⟨rfl, rfl⟩
theorem c_kw.ok (h : c_kw I J) (hg : c_ok I) : c_ok J := by
  unfold c_ok c_h c_p at *
  rw [h 1 (by omega)]
  exact hg
theorem c_kw.K (h : c_kw I J) : cK J L = cK I L := cK_eq (h 1 (by omega)) (fun b h1 h2 => h b (by omega)) (by rw [h 0 (by omega)]) (by rw [h 0 (by omega)])
theorem c_kw.am (h : c_kw I J) (h6 : P.1 ≤ 6) : c_am P J = c_am P I := funext fun a => p_ic fun q => by rw [h (80 + a) (by omega)]
theorem c_kw.Y (h : c_kw I J) (h6 : P.1 ≤ 6) : cY P J = cY P I := by
  unfold cY
  rw [h.am h6, h 33 (by omega), h 34 (by omega)]
  have e1 : (fun a => if a < P.1 then J (80 + a) 0 else nI 0) = (fun a => if a < P.1 then I (80 + a) 0 else nI 0) := funext fun a => p_ic fun q => by rw [h (80 + a) (by omega)]
  have e2 : (fun a i => if i < c_am P I a then (J (90 + a) i).toNatClampNeg else 0) = (fun a i => if i < c_am P I a then (I (90 + a) i).toNatClampNeg else 0) := funext fun a => funext fun i => p_ic fun q => by rw [h (90 + a) (by omega)]
  rw [e1, e2]
theorem c_kw.A (h : c_kw I J) {r : Nat} (hr : 10 ≤ r ∧ r < 13) : cA J r = cA I r := cA_eq (fun k hk => h _ (by omega)) (by rw [h r (by omega)])
theorem c_kw.td (h : c_kw I J) {r : Nat} (hr : 10 ≤ r ∧ r < 13) (ht : c_td I r) : c_td J r := by
  refine ⟨fun k hk => ?_, by rw [h.A hr]; exact ht.2⟩
  rw [h.hp.1] at hk
  rw [h.A hr, h (10 * r) (by omega), h 31 (by omega), h r (by omega)]
  exact ht.1 k hk
theorem c_kw.imn (h : c_kw I J) : c_im J = c_im I ∧ c_l J = c_l I ∧ c_tp J = c_tp I := by
  unfold c_im c_l c_tp
  rw [h 0 (by omega)]
  exact ⟨rfl, rfl, rfl⟩
theorem c_kw.good (h : c_kw I J) (hg : c_good P Z I L) (t5 : c_td J 5) (t6 : c_td J 6) : c_good P Z J L := by
  obtain ⟨g1, g2, g3, g4, g5, g6, g7, g8, g9, g10, g11⟩ := hg
  have eY := h.Y (P := P) g3.1
  refine ⟨h.ok g1, g2.eq fun a ha => h a (by omega), ⟨g3.1, by rw [h 40 (by omega)]; exact g3.2.1, g3.2.2⟩, fun a ha => ?_, by rw [h 0 (by omega)]; exact g5, ?_, ?_, ?_, t5, t6, fun k hk => ?_⟩
  · have h6 := g3.1
    have eb : g_bits (cG P J L) a = g_bits (cG P I L) a := g_bits_x eY
    rw [h.am g3.1, h (80 + a) (by omega), h (90 + a) (by omega), eb, h.hp.2]
    exact g4 a ha
  · rw [h.imn.1, h 0 (by omega)]
    exact g6
  · unfold c_lnok
    rw [h.imn.2.1, h 0 (by omega), h.hp.1, h.hp.2, h 3 (by omega)]
    exact g7
  · rw [h.imn.2.2, h 0 (by omega)]
    exact g8
  · rw [h.imn.1] at hk
    exact h.td (by omega) (g11 k hk)
def g_nb (G : gG) (T B : gT) (g : Int32) : gG := g_setN G fun n => (n.1, T, B, g, n.2.2.2.2)
theorem c_kw.G (h : c_kw I J) (hg : c_good P Z I L) : cG P J L = g_nb (cG P I L) (cA J 5) (cA J 6) (J 5 6 - J 6 6) := by
  have g6 := hg.2.2.2.2.2.1
  have eb : c_bT J = c_bT I := by
    unfold c_bT
    rw [h 37 (by omega), h 38 (by omega)]
  unfold cG g_nb g_setN
  rw [h.K, h.Y hg.2.2.1.1]
  unfold cN
  rw [eb, h.imn.1, h.imn.2.1, h.imn.2.2, h 3 (by omega), h 16 (by omega), h 0 (by omega), h 4 (by omega)]
  have e : (fun k => if k < c_im I then cA J (10 + k) else c_bT I) = (fun k => if k < c_im I then cA I (10 + k) else c_bT I) := funext fun k => p_ic fun q => h.A (by omega)
  rw [e]
theorem c_sc.kw {r : Nat} (h : c_sc r I J) (hr : r = 5 ∨ r = 6) : c_kw I J := fun b hb => h b (by omega) (by omega) (by omega)
theorem c_kw.tr {K : tI} (h : c_kw I J) (h2 : c_kw J K) : c_kw I K := fun b hb => (h2 b hb).trans (h b hb)
theorem c_ts.td {r : Nat} (h : c_ts P Z I r L) : c_td I r := ⟨h.2.2.1, h.2.2.2.1⟩
/-- one troupe stays where only the other one changes -/
theorem c_sc.td {r s : Nat} (h : c_sc r I J) (hr : c_tr P r) (hs : c_tr P s) (hne : s ≠ r) (ht : c_td I s) : cA J s = cA I s ∧ J s 6 = I s 6 ∧ c_td J s := by
  have hrn := hr.ne
  have hsn := hs.ne
  have eA : cA J s = cA I s := cA_eq (fun k hk => h _ (by omega) (by omega) (by omega)) (by rw [h s (by omega) hne (by omega)])
  refine ⟨eA, by rw [h s (by omega) hne (by omega)], fun k hk => ?_, by rw [eA]; exact ht.2⟩
  rw [(h.h hr).1] at hk
  rw [eA, h (10 * s) (by omega) (by omega) (by omega), h 31 (by decide) (by omega) (by omega), h s (by omega) hne (by omega)]
  exact ht.1 k hk
end
theorem g_yrs_gos {K : gK} {T : gT} {g : Int32} {y : Nat} (hy : gy T = nI y) (h : y ≤ 200) : ∀ n, n < 1000 → g_yrs K n (T, g) = (g_gos K (min n (200 - y)) T, g + nI (min n (200 - y)))
  | 0, _ => by
    rw [Nat.zero_min]
    show (T, g) = (T, g + nI 0)
    rw [show nI 0 = 0 from rfl, Int32.add_zero]
  | n + 1, hn => by
    rw [g_yrs_s, g_yrs_gos hy h n (by omega)]
    have e : gy (g_gos K (min n (200 - y)) T) = nI (y + min n (200 - y)) := gy_gos K T hy _
    unfold g_yr
    by_cases q : n < 200 - y
    · rw [if_neg (by
        rw [e, nI_leI (by omega) (by omega)]
        omega)]
      rw [show min (n + 1) (200 - y) = min n (200 - y) + 1 by omega, g_gos_s]
      rw [← nI_add, Int32.add_assoc]
    · rw [if_pos (by
        rw [e, nI_leI (by omega) (by omega)]
        omega)]
      rw [show min (n + 1) (200 - y) = min n (200 - y) by omega]
