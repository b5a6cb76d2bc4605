/-! ===== the reference: a book read ===== -/
set_option maxRecDepth 100000
abbrev lB : Type := Int32 × Int32 × Int32
def p_bkF (f : Nat → Int32) (n : Nat) (hp hh : Int32) : Nat → List lB → Nat → pR (List lB)
  | 0, L, k => if k < n then p_bd (p_number f n (nI 1) (nI 60) k) fun _ _ => .inl (nI 3, k) else .inr (L, k)
  | u + 1, L, k => if k < n then p_bd (p_number f n (nI 1) (nI 60) k) fun y k => p_bd (p_number f n (nI 0) hp k) fun p k => p_bd (p_number f n (nI 0) hh k) fun h k => p_go (p_sign f n (nI 59) k) fun k => p_bkF f n hp hh u (L ++ [(y, p, h)]) (p_bl f n k) else .inr (L, k)
def p_book (f : Nat → Int32) (n : Nat) (hp hh : Int32) : pR (List lB) := p_bkF f n hp hh 12 [] (p_bl f n 0)
def g_bln (L : List lB) (k i : Nat) : Int32 := match L[k]? with
  | some x => if i = 0 then x.1 else if i = 1 then x.2.1 else if i = 2 then x.2.2 else nI 0
  | none => nI 0
def g_bookd (G : gG) (L : List lB) : gG := g_setN G fun n => (n.1, n.2.1, n.2.2.1, n.2.2.2.1, n.2.2.2.2.1, n.2.2.2.2.2.1, L.length, g_bln L, 0, (fun _ => nI 0), nM, n.2.2.2.2.2.2.2.2.2.2.2)
def q_book (G : gG) (m : Int32) : gR := g_ck G (t_in m (nI 0) (nI (gtape G)) && decide (m ≤ nI 150)) (nI 1) 1 (match p_book (gfed G) m.toNatClampNeg (nI (gm (gGK G)) - nI 1) (nI (gn (gGK G)) - nI 1) with
  | .inl (c, q) => (nI 0, c - nI 10, g_flt G q)
  | .inr (L, _) => (nI 0, nI L.length, g_bookd G L))
theorem p_chain3 {α : Type} (p0 : pP) (g1 g2 : Nat → pR Int32) (s : Nat → pP) (F : Int32 → Int32 → Nat → pR α) : (p_go p0 fun k1 => p_bd (g1 k1) fun p k2 => p_bd (g2 k2) fun h k3 => p_go (s k3) fun k4 => F p h k4) = p_go (p_then (p_st (p_go (p_st (p_go p0 g1)) g2)) s) fun k4 => F (p_v (p_go p0 g1)) (p_v (p_go (p_st (p_go p0 g1)) g2)) k4 := by
  cases p0 with
  | inl e => rfl
  | inr k1 =>
    show (p_bd (g1 k1) fun p k2 => p_bd (g2 k2) fun h k3 => p_go (s k3) fun k4 => F p h k4) = p_go (p_then (p_st (p_go (p_st (g1 k1)) g2)) s) fun k4 => F (p_v (g1 k1)) (p_v (p_go (p_st (g1 k1)) g2)) k4
    cases g1 k1 with
    | inl e => rfl
    | inr e =>
      obtain ⟨p, k2⟩ := e
      show (p_bd (g2 k2) fun h k3 => p_go (s k3) fun k4 => F p h k4) = p_go (p_then (p_st (g2 k2)) s) fun k4 => F p (p_v (g2 k2)) k4
      cases g2 k2 with
      | inl e => rfl
      | inr e => rfl
theorem p_then_r {p : pP} {g : Nat → pP} {k : Nat} (h : p_then p g = .inr k) : ∃ j, p = .inr j ∧ g j = .inr k := by
  cases p with
  | inl e => cases h
  | inr j => exact ⟨j, rfl, h⟩
theorem p_st_r {α : Type} {r : pR α} {k : Nat} (h : p_st r = .inr k) : ∃ v, r = .inr (v, k) := by
  cases r with
  | inl e => cases h
  | inr e =>
    obtain ⟨v, j⟩ := e
    cases Sum.inr.inj h
    exact ⟨v, rfl⟩
/-- the lines L lie there -/
def t_bks (M : tI) (b : Nat) (L : List lB) : Prop := ∀ (j : Nat) (x : lB), L[j]? = some x → M (b + j) 0 = x.1 ∧ M (b + j) 1 = x.2.1 ∧ M (b + j) 2 = x.2.2
def l_bok (P H : Nat) (L : List lB) : Prop := ∀ (j : Nat) (x : lB), L[j]? = some x → ∃ p h y, p < P ∧ h < H ∧ x.2.1 = nI p ∧ x.2.2 = nI h ∧ x.1 = nI y ∧ 1 ≤ y ∧ y ≤ 60
theorem l_bok_a {P H p h y : Nat} {L : List lB} (hL : l_bok P H L) (h1 : p < P) (h2 : h < H) (h3 : 1 ≤ y) (h4 : y ≤ 60) : l_bok P H (L ++ [(nI y, nI p, nI h)]) := fun j x hx => by
  rcases Nat.lt_or_ge j L.length with q | q
  · rw [List.getElem?_append_left q] at hx
    exact hL j x hx
  · rw [List.getElem?_append_right q] at hx
    have : j - L.length = 0 := by
      have := (List.getElem?_eq_some_iff.mp hx).1
      simp at this
      omega
    rw [this] at hx
    cases Option.some.inj hx
    exact ⟨p, h, y, h1, h2, rfl, rfl, rfl, h3, h4⟩
theorem t_bks_a {M M' : tI} {b : Nat} {L : List lB} {x : lB} (h : t_bks M b L) (h1 : ∀ j, j < L.length → M' (b + j) = M (b + j)) (h2 : M' (b + L.length) 0 = x.1) (h3 : M' (b + L.length) 1 = x.2.1) (h4 : M' (b + L.length) 2 = x.2.2) : t_bks M' b (L ++ [x]) := fun j z hz => by
  rcases Nat.lt_or_ge j L.length with q | q
  · rw [List.getElem?_append_left q] at hz
    rw [h1 j q]
    exact h j z hz
  · rw [List.getElem?_append_right q] at hz
    have : j - L.length = 0 := by
      have := (List.getElem?_eq_some_iff.mp hz).1
      simp at this
      omega
    rw [this] at hz
    cases Option.some.inj hz
    have e : j = L.length := by omega
    subst e
    exact ⟨h2, h3, h4⟩
theorem t_bookd {J W : tI} {L : List lB} (hg : t_good J) (hb : ∀ b, b ≠ 0 → ¬ (400 ≤ b ∧ b < 560) → ¬ (600 ≤ b ∧ b < 632) → W b = J b) (hf : ∀ k, (k = 0 ∨ k = 27 ∨ k = 42 ∨ k = 43 ∨ k = 45) → W 0 k = J 0 k) (h1 : W 0 1 = nI 0) (h3 : W 0 3 = nM) (h41 : W 0 41 = nI L.length) (hn : L.length ≤ 12) (hc : t_bks W 600 L) (hL : l_bok (t_p J) (t_h J) L) : t_good W ∧ tG W = g_bookd (tG J) L := by
  obtain ⟨g1, g2, g3, g4, g5, g6, g7, g8⟩ := id hg
  have e12 := hb 12 (by omega) (by omega) (by omega)
  have ha : t_a J ≤ 6 := g1.2.2.2.2.2
  have eh := t_h_eq e12
  have ep := t_p_eq e12
  have ea : t_a W = t_a J := by unfold t_a; rw [e12]
  have el : t_l W = L.length := by unfold t_l; rw [h41, nI_clamp (by omega)]
  have ei : t_im W = t_im J := by unfold t_im; rw [hf 43 (by omega)]
  have et : t_tp W = 0 := t_tp_of h1 (by decide)
  obtain ⟨eX, em⟩ := t_X_of (I := J) (J := W) (fun b hb' => hb b (by omega) (by omega) (by omega)) ha
  refine ⟨⟨t_ok_eq g1 e12, t_lok_eq g2 (fun k hk => hb _ (by omega) (by omega) (by omega)) (hf 27 (by omega)), (hf 45 (by omega)).trans g3, by rw [el]; exact ⟨h41, hn⟩, by rw [ei, hf 43 (by omega)]; exact g5, by rw [et]; exact ⟨h1, by decide⟩, fun a q => ?_, fun k q => ?_⟩, ?_⟩
  · rw [ea] at q
    rw [em a, hb (150 + a) (by omega) (by omega) (by omega), ep]
    exact g7 a q
  · rw [el] at q
    have ek := List.getElem?_eq_getElem q
    obtain ⟨c1, c2, c3⟩ := hc k _ ek
    rw [ep, eh, c1, c2, c3]
    exact hL k _ ek
  · have a : ∀ r, (r = 36 ∨ r = 37 ∨ r = 38 ∨ 639 < r) → tA W r = tA J r := fun r hr => tA_eq fun k _ => by rw [hb r (by omega) (by omega) (by omega)]
    have eK : tK W = tK J := tK_eq g1 g2 (fun b hb' => hb b (by unfold t_fx at hb'; omega) (by unfold t_fx at hb'; omega) (by unfold t_fx at hb'; omega)) (hf 27 (by omega))
    have eN : tN W = (g_bookd (tG J) L).2.2 := by
      unfold tN
      have e1 : ∀ k, tA W (640 + k) = tA J (640 + k) := fun k => a _ (by omega)
      have e2 : (fun k i => if k < L.length ∧ i < 3 then W (600 + k) i else nI 0) = g_bln L := funext fun k => funext fun i => by
        unfold g_bln
        rcases Nat.lt_or_ge k L.length with q | q
        · have ek := List.getElem?_eq_getElem q
          obtain ⟨c1, c2, c3⟩ := hc k _ ek
          rw [ek]
          match i with
          | 0 => rw [if_pos ⟨q, by decide⟩]; exact c1
          | 1 => rw [if_pos ⟨q, by decide⟩]; exact c2
          | 2 => rw [if_pos ⟨q, by decide⟩]; exact c3
          | i + 3 => rw [if_neg (by omega)]; simp
        · rw [if_neg (by omega), List.getElem?_eq_none_iff.mpr q]
      rw [ei, el, et, a 36 (by omega), a 37 (by omega), a 38 (by omega), h3, hf 42 (by omega), hb 10 (by omega) (by omega) (by omega), e2]
      simp only [e1, Nat.not_lt_zero, if_false]
      rfl
    show (tK W, tX W, tN W) = _
    rw [eK, eX, eN]
    rfl
abbrev bX11_book_0 : List xE := [(.aload_n 0, 1, 0, 0, 0), (.iconst 0, 2, 0, 0, 0), (.putfield 134, 5, 8, 0, 0), (.aload_n 0, 6, 0, 0, 0), (.iload_n 1, 7, 0, 0, 0), (.iconst 0, 8, 0, 0, 0), (.aload_n 0, 9, 0, 0, 0), (.getfield 137, 12, 8, 1, 0), (.invokestatic 168, 15, 0, 0, 9), (.ifCond .eq 10, 18, 0, 25, 0), (.iload_n 1, 19, 0, 0, 0), (.sipush 150, 22, 0, 0, 0), (.if_icmp .le 7, 25, 0, 29, 0)]
abbrev bX11_book_25 : List xE := [(.iconst 1, 26, 0, 0, 0), (.goto 4, 29, 0, 30, 0)]
abbrev bX11_book_29 : List xE := [(.iconst 0, 30, 0, 0, 0)]
abbrev bX11_book_30 : List xE := [(.iconst 1, 31, 0, 0, 0), (.iconst 1, 32, 0, 0, 0), (.invokevirtual 249, 35, 0, 1, 9), (.ifCond .eq 5, 38, 0, 40, 0), (.iconst 0, 39, 0, 0, 0), (.ireturn, 40, 0, 0, 0)]
abbrev bX11_book_40 : List xE := [(.aload_n 0, 41, 0, 0, 0), (.iload_n 1, 42, 0, 0, 0), (.invokevirtual 253, 45, 0, 2, 9), (.iconst 0, 46, 0, 0, 0), (.istore_n 2, 47, 0, 0, 0)]
abbrev bX11_book_47 : List xE := [(.aload_n 0, 48, 0, 0, 0), (.getfield 150, 51, 8, 5, 0), (.ifCond .ne 130, 54, 0, 181, 0), (.aload_n 0, 55, 0, 0, 0), (.getfield 143, 58, 8, 4, 0), (.aload_n 0, 59, 0, 0, 0), (.getfield 140, 62, 8, 2, 0), (.if_icmp .ge 119, 65, 0, 181, 0), (.aload_n 0, 66, 0, 0, 0), (.getfield 143, 69, 8, 4, 0), (.istore_n 3, 70, 0, 0, 0), (.aload_n 0, 71, 0, 0, 0), (.iconst 1, 72, 0, 0, 0), (.bipush 60, 74, 0, 0, 0), (.invokevirtual 202, 77, 0, 3, 9), (.istore 4, 79, 0, 0, 0), (.aload_n 0, 80, 0, 0, 0), (.getfield 150, 83, 8, 5, 0), (.ifCond .ne 15, 86, 0, 98, 0), (.iload_n 2, 87, 0, 0, 0), (.bipush 12, 89, 0, 0, 0), (.if_icmp .ne 9, 92, 0, 98, 0), (.aload_n 0, 93, 0, 0, 0), (.iconst 3, 94, 0, 0, 0), (.iload_n 3, 95, 0, 0, 0), (.invokevirtual 163, 98, 0, 4, 9)]
abbrev bX11_book_98 : List xE := [(.aload_n 0, 99, 0, 0, 0), (.iconst 0, 100, 0, 0, 0), (.aload_n 0, 101, 0, 0, 0), (.getfield 23, 104, 8, 12, 1), (.iconst 1, 105, 0, 0, 0), (.iaload, 106, 0, 0, 0), (.iconst 1, 107, 0, 0, 0), (.isub, 108, 0, 0, 0), (.invokevirtual 202, 111, 0, 3, 9), (.istore 5, 113, 0, 0, 0), (.aload_n 0, 114, 0, 0, 0), (.iconst 0, 115, 0, 0, 0), (.aload_n 0, 116, 0, 0, 0), (.getfield 23, 119, 8, 12, 1), (.iconst 0, 120, 0, 0, 0), (.iaload, 121, 0, 0, 0), (.iconst 1, 122, 0, 0, 0), (.isub, 123, 0, 0, 0), (.invokevirtual 202, 126, 0, 3, 9), (.istore 6, 128, 0, 0, 0), (.aload_n 0, 129, 0, 0, 0), (.bipush 59, 131, 0, 0, 0), (.invokevirtual 232, 134, 0, 5, 9), (.aload_n 0, 135, 0, 0, 0), (.getfield 150, 138, 8, 5, 0), (.ifCond .ne 36, 141, 0, 174, 0), (.aload_n 0, 142, 0, 0, 0), (.getfield 79, 145, 8, 32, 1), (.iload_n 2, 146, 0, 0, 0), (.aaload, 147, 0, 0, 0), (.iconst 0, 148, 0, 0, 0), (.iload 4, 150, 0, 0, 0), (.iastore, 151, 0, 0, 0), (.aload_n 0, 152, 0, 0, 0), (.getfield 79, 155, 8, 32, 1), (.iload_n 2, 156, 0, 0, 0), (.aaload, 157, 0, 0, 0), (.iconst 1, 158, 0, 0, 0), (.iload 5, 160, 0, 0, 0), (.iastore, 161, 0, 0, 0), (.aload_n 0, 162, 0, 0, 0), (.getfield 79, 165, 8, 32, 1), (.iload_n 2, 166, 0, 0, 0), (.aaload, 167, 0, 0, 0), (.iconst 2, 168, 0, 0, 0), (.iload 6, 170, 0, 0, 0), (.iastore, 171, 0, 0, 0), (.iinc 2 1, 174, 0, 0, 0)]
abbrev bX11_book_174 : List xE := [(.aload_n 0, 175, 0, 0, 0), (.invokevirtual 156, 178, 0, 6, 9), (.goto (-131), 181, 0, 47, 0)]
abbrev bX11_book_181 : List xE := [(.aload_n 0, 182, 0, 0, 0), (.getfield 150, 185, 8, 5, 0), (.ifCond .eq 8, 188, 0, 193, 0), (.aload_n 0, 189, 0, 0, 0), (.invokevirtual 259, 192, 0, 7, 9), (.ireturn, 193, 0, 0, 0)]
abbrev bX11_book_193 : List xE := [(.aload_n 0, 194, 0, 0, 0), (.iconst (-1), 195, 0, 0, 0), (.putfield 9, 198, 8, 3, 0), (.aload_n 0, 199, 0, 0, 0), (.iload_n 2, 200, 0, 0, 0), (.putfield 273, 203, 8, 41, 0), (.aload_n 0, 204, 0, 0, 0), (.getfield 79, 207, 8, 32, 1), (.aload_n 0, 208, 0, 0, 0), (.getfield 76, 211, 8, 31, 1), (.iload_n 2, 212, 0, 0, 0), (.invokestatic 262, 215, 0, 8, 9), (.iload_n 2, 216, 0, 0, 0), (.ireturn, 217, 0, 0, 0)]
abbrev kX11_book : List (Nat × List xE) := [(0, bX11_book_0), (25, bX11_book_25), (29, bX11_book_29), (30, bX11_book_30), (40, bX11_book_40), (47, bX11_book_47), (98, bX11_book_98), (174, bX11_book_174), (181, bX11_book_181), (193, bX11_book_193)]
abbrev lX11_book : List (Nat × Nat × Nat × xS) := [(3, 0, 0, S_X11_in), (4, 0, 0, xm_this 8 S_X11_bad), (2, 0, 0, xm_this 8 S_X11_starts), (3, 0, 0, xm_this 8 S_X11_number), (3, 0, 0, xm_this 8 S_X11_wrong), (2, 0, 0, xm_this 8 S_X11_sign), (1, 0, 0, xm_this 8 S_X11_blanks), (1, 0, 0, xm_this 8 S_X11_ends), (3, 0, 0, S_X11_lays)]
theorem oX11_book_0 {Iv : xI} (hI : xm_good Iv)  : xm_okb Iv RX11 cX11_book false 4 lX11_book bX11_book_0 0 := xo_0 dX11_book_0 rfl trivial (xo_0 dX11_book_1 rfl trivial (xo_0 dX11_book_2 rfl (xm_fp_of (xm_fg_of (Or.inl q1955) (by decide) rfl (by decide) rfl rfl (Or.inl rfl) rfl) (by decide) rfl (Or.inl ⟨rfl, rfl⟩) rfl) (xo_0 dX11_book_5 rfl trivial (xo_0 dX11_book_6 rfl trivial (xo_0 dX11_book_7 rfl trivial (xo_0 dX11_book_8 rfl trivial (xo_0 dX11_book_9 rfl (xm_fg_of (Or.inl q1956) (by decide) rfl (by decide) rfl rfl (Or.inl rfl) rfl) (xo_c rfl (cv_X11_in hI dX11_book_12 (Or.inl q1942) (by decide)) (xo_0 dX11_book_15 rfl rfl (xo_0 dX11_book_18 rfl trivial (xo_0 dX11_book_19 rfl (xo_sipush (by decide +kernel)) (xo_0 dX11_book_22 rfl rfl (xo_n)))))))))))))
theorem oX11_book_25 {Iv : xI} (hI : xm_good Iv)  : xm_okb Iv RX11 cX11_book false 4 lX11_book bX11_book_25 25 := xo_0 dX11_book_25 rfl trivial (xo_0 dX11_book_26 rfl rfl (xo_n))
theorem oX11_book_29 {Iv : xI} (hI : xm_good Iv)  : xm_okb Iv RX11 cX11_book false 4 lX11_book bX11_book_29 29 := xo_0 dX11_book_29 rfl trivial (xo_n)
theorem oX11_book_30 {Iv : xI} (hI : xm_good Iv)  : xm_okb Iv RX11 cX11_book false 4 lX11_book bX11_book_30 30 := xo_0 dX11_book_30 rfl trivial (xo_0 dX11_book_31 rfl trivial (xo_c rfl (cv_X11_bad hI dX11_book_32 (Or.inl q2137) (by decide)) (xo_0 dX11_book_35 rfl rfl (xo_0 dX11_book_38 rfl trivial (xo_0 dX11_book_39 rfl trivial (xo_n))))))
theorem oX11_book_40 {Iv : xI} (hI : xm_good Iv)  : xm_okb Iv RX11 cX11_book false 4 lX11_book bX11_book_40 40 := xo_0 dX11_book_40 rfl trivial (xo_0 dX11_book_41 rfl trivial (xo_c rfl (cv_X11_starts hI dX11_book_42 (Or.inl q2141) (by decide)) (xo_0 dX11_book_45 rfl trivial (xo_0 dX11_book_46 rfl trivial (xo_n)))))
theorem oX11_book_47 {Iv : xI} (hI : xm_good Iv)  : xm_okb Iv RX11 cX11_book false 4 lX11_book bX11_book_47 47 := xo_0 dX11_book_47 rfl trivial (xo_0 dX11_book_48 rfl (xm_fg_of (Or.inl q1960) (by decide) rfl (by decide) rfl rfl (Or.inl rfl) rfl) (xo_0 dX11_book_51 rfl rfl (xo_0 dX11_book_54 rfl trivial (xo_0 dX11_book_55 rfl (xm_fg_of (Or.inl q1959) (by decide) rfl (by decide) rfl rfl (Or.inl rfl) rfl) (xo_0 dX11_book_58 rfl trivial (xo_0 dX11_book_59 rfl (xm_fg_of (Or.inl q1957) (by decide) rfl (by decide) rfl rfl (Or.inl rfl) rfl) (xo_0 dX11_book_62 rfl rfl (xo_0 dX11_book_65 rfl trivial (xo_0 dX11_book_66 rfl (xm_fg_of (Or.inl q1959) (by decide) rfl (by decide) rfl rfl (Or.inl rfl) rfl) (xo_0 dX11_book_69 rfl trivial (xo_0 dX11_book_70 rfl trivial (xo_0 dX11_book_71 rfl trivial (xo_0 dX11_book_72 rfl (xo_bipush (by decide +kernel)) (xo_c rfl (cv_X11_number hI dX11_book_74 (Or.inl q2190) (by decide)) (xo_0 dX11_book_77 rfl trivial (xo_0 dX11_book_79 rfl trivial (xo_0 dX11_book_80 rfl (xm_fg_of (Or.inl q1960) (by decide) rfl (by decide) rfl rfl (Or.inl rfl) rfl) (xo_0 dX11_book_83 rfl rfl (xo_0 dX11_book_86 rfl trivial (xo_0 dX11_book_87 rfl (xo_bipush (by decide +kernel)) (xo_0 dX11_book_89 rfl rfl (xo_0 dX11_book_92 rfl trivial (xo_0 dX11_book_93 rfl trivial (xo_0 dX11_book_94 rfl trivial (xo_c rfl (cv_X11_wrong hI dX11_book_95 (Or.inl q2178) (by decide)) (xo_n))))))))))))))))))))))))))
theorem oX11_book_98 {Iv : xI} (hI : xm_good Iv)  : xm_okb Iv RX11 cX11_book false 4 lX11_book bX11_book_98 98 := xo_0 dX11_book_98 rfl trivial (xo_0 dX11_book_99 rfl trivial (xo_0 dX11_book_100 rfl trivial (xo_1 dX11_book_101 rfl (xm_fg_of (Or.inl q1967) (by decide) rfl (by decide) rfl rfl (Or.inl rfl) rfl) (xo_0 dX11_book_104 rfl trivial (xo_0 dX11_book_105 rfl trivial (xo_0 dX11_book_106 rfl trivial (xo_0 dX11_book_107 rfl trivial (xo_c rfl (cv_X11_number hI dX11_book_108 (Or.inl q2190) (by decide)) (xo_0 dX11_book_111 rfl trivial (xo_0 dX11_book_113 rfl trivial (xo_0 dX11_book_114 rfl trivial (xo_0 dX11_book_115 rfl trivial (xo_1 dX11_book_116 rfl (xm_fg_of (Or.inl q1967) (by decide) rfl (by decide) rfl rfl (Or.inl rfl) rfl) (xo_0 dX11_book_119 rfl trivial (xo_0 dX11_book_120 rfl trivial (xo_0 dX11_book_121 rfl trivial (xo_0 dX11_book_122 rfl trivial (xo_c rfl (cv_X11_number hI dX11_book_123 (Or.inl q2190) (by decide)) (xo_0 dX11_book_126 rfl trivial (xo_0 dX11_book_128 rfl trivial (xo_0 dX11_book_129 rfl (xo_bipush (by decide +kernel)) (xo_c rfl (cv_X11_sign hI dX11_book_131 (Or.inl q2232) (by decide)) (xo_0 dX11_book_134 rfl trivial (xo_0 dX11_book_135 rfl (xm_fg_of (Or.inl q1960) (by decide) rfl (by decide) rfl rfl (Or.inl rfl) rfl) (xo_0 dX11_book_138 rfl rfl (xo_0 dX11_book_141 rfl trivial (xo_1 dX11_book_142 rfl (xm_fg_of (Or.inl q1987) (by decide) rfl (by decide) rfl rfl (Or.inl rfl) rfl) (xo_0 dX11_book_145 rfl trivial (xo_0 dX11_book_146 rfl trivial (xo_0 dX11_book_147 rfl trivial (xo_0 dX11_book_148 rfl trivial (xo_0 dX11_book_150 rfl trivial (xo_0 dX11_book_151 rfl trivial (xo_1 dX11_book_152 rfl (xm_fg_of (Or.inl q1987) (by decide) rfl (by decide) rfl rfl (Or.inl rfl) rfl) (xo_0 dX11_book_155 rfl trivial (xo_0 dX11_book_156 rfl trivial (xo_0 dX11_book_157 rfl trivial (xo_0 dX11_book_158 rfl trivial (xo_0 dX11_book_160 rfl trivial (xo_0 dX11_book_161 rfl trivial (xo_1 dX11_book_162 rfl (xm_fg_of (Or.inl q1987) (by decide) rfl (by decide) rfl rfl (Or.inl rfl) rfl) (xo_0 dX11_book_165 rfl trivial (xo_0 dX11_book_166 rfl trivial (xo_0 dX11_book_167 rfl trivial (xo_0 dX11_book_168 rfl trivial (xo_0 dX11_book_170 rfl trivial (xo_0 dX11_book_171 rfl trivial (xo_n))))))))))))))))))))))))))))))))))))))))))))))))
theorem oX11_book_174 {Iv : xI} (hI : xm_good Iv)  : xm_okb Iv RX11 cX11_book false 4 lX11_book bX11_book_174 174 := xo_0 dX11_book_174 rfl trivial (xo_c rfl (cv_X11_blanks hI dX11_book_175 (Or.inl q2145) (by decide)) (xo_0 dX11_book_178 rfl rfl (xo_n)))
theorem oX11_book_181 {Iv : xI} (hI : xm_good Iv)  : xm_okb Iv RX11 cX11_book false 4 lX11_book bX11_book_181 181 := xo_0 dX11_book_181 rfl trivial (xo_0 dX11_book_182 rfl (xm_fg_of (Or.inl q1960) (by decide) rfl (by decide) rfl rfl (Or.inl rfl) rfl) (xo_0 dX11_book_185 rfl rfl (xo_0 dX11_book_188 rfl trivial (xo_c rfl (cv_X11_ends hI dX11_book_189 (Or.inl q2236) (by decide)) (xo_0 dX11_book_192 rfl trivial (xo_n))))))
theorem oX11_book_193 {Iv : xI} (hI : xm_good Iv)  : xm_okb Iv RX11 cX11_book false 4 lX11_book bX11_book_193 193 := xo_0 dX11_book_193 rfl trivial (xo_0 dX11_book_194 rfl trivial (xo_0 dX11_book_195 rfl (xm_fp_of (xm_fg_of (Or.inl q1958) (by decide) rfl (by decide) rfl rfl (Or.inl rfl) rfl) (by decide) rfl (Or.inl ⟨rfl, rfl⟩) rfl) (xo_0 dX11_book_198 rfl trivial (xo_0 dX11_book_199 rfl trivial (xo_0 dX11_book_200 rfl (xm_fp_of (xm_fg_of (Or.inl q1996) (by decide) rfl (by decide) rfl rfl (Or.inl rfl) rfl) (by decide) rfl (Or.inl ⟨rfl, rfl⟩) rfl) (xo_0 dX11_book_203 rfl trivial (xo_1 dX11_book_204 rfl (xm_fg_of (Or.inl q1987) (by decide) rfl (by decide) rfl rfl (Or.inl rfl) rfl) (xo_0 dX11_book_207 rfl trivial (xo_1 dX11_book_208 rfl (xm_fg_of (Or.inl q1986) (by decide) rfl (by decide) rfl rfl (Or.inl rfl) rfl) (xo_0 dX11_book_211 rfl trivial (xo_c rfl (cv_X11_lays hI dX11_book_212 (Or.inl q1939) (by decide)) (xo_0 dX11_book_215 rfl trivial (xo_0 dX11_book_216 rfl trivial (xo_n))))))))))))))
theorem oX11_book {Iv : xI} (hI : xm_good Iv)  : ∀ q ∈ kX11_book, xm_okb Iv RX11 cX11_book false 4 lX11_book q.2 q.1 := by
  intro q hq
  simp only [List.mem_cons, List.not_mem_nil, or_false] at hq
  rcases hq with rfl | rfl | rfl | rfl | rfl | rfl | rfl | rfl | rfl | rfl
  · exact oX11_book_0 hI  
  · exact oX11_book_25 hI  
  · exact oX11_book_29 hI  
  · exact oX11_book_30 hI  
  · exact oX11_book_40 hI  
  · exact oX11_book_47 hI  
  · exact oX11_book_98 hI  
  · exact oX11_book_174 hI  
  · exact oX11_book_181 hI  
  · exact oX11_book_193 hI  
def S_X11_book : xS := tU fun as I Q => ∃ m, as = [.ref 0, .int m] ∧ t_good I ∧ t_P Q (q_book (tG I) m)
theorem body_X11_book : xm_Body 7 0 0 0 [] lX11_book kX11_book S_X11_book := by
  intro X avs w Q QX hX0 hS
  have hG := xm_go [] hX0
  have hX := xm_go [47, 98] hX0
  clear hX0
  obtain ⟨I, rfl, m, rfl, hg, hQ⟩ := hS
  refine ⟨rfl, ?_⟩
  repeat' (first
    | ((with_reducible refine @And.intro (vp_in _ _) _ ?_ ?_); (· (first | with_reducible assumption | ((with_reducible refine t_vin ?_); decide) | ((with_reducible refine vp_in_nI ?_ ?_) <;> first | omega | decide) | (simp (disch := omega) only [xl_n, xl_m, nI_dec, nI_sb, nI_add, pk_mul]; (with_reducible refine vp_in_nI ?_ ?_) <;> first | omega | decide))); (conv => whnf))
    | (refine And.intro (by first | with_reducible assumption | exact (show tL _ = _ from rfl) | decide) ?_; (conv => whnf))
    | ((with_reducible refine @And.intro (_ = _) _ ?_ ?_); (· rfl); (conv => whnf))
    | ((with_reducible refine @And.intro (@LE.le Nat _ _ _) _ ?_ ?_); (· (first | exact Nat.zero_le _ | exact Nat.le_of_ble_eq_true rfl | omega)); (conv => whnf))
    | ((with_reducible refine @And.intro (@LT.lt Nat _ _ _) _ ?_ ?_); (· omega); (conv => whnf))
    | ((with_reducible refine @And.intro (∃ _, _ = _) _ ?_ ?_); (· exact ⟨_, rfl⟩); (conv => whnf))
    | ((with_reducible refine @And.intro (_ ∨ _) _ ?_ ?_); (· (first | exact Or.inl rfl | exact Or.inr rfl | exact t_b01 _ | assumption)); (conv => whnf))
    | ((with_reducible refine @And.intro (¬ (_ = _)) _ ?_ ?_); (· first | assumption | (with_reducible assumption)); (conv => whnf))
    | (refine hX _ _ _ _ _ _ ?_; (conv => whnf); fail_if_success show False)
    | fail)
  rw [t_si]
  obtain ⟨J, hJ, hg1, hG1, h01⟩ := t_pub hg
  rw [← hJ]
  rw [← hG1] at hQ
  clear hJ hG1 hg I
  have hg := hg1
  have hok := hg.1
  have hl := hg.2.1
  have h8 := hok.2.2.2.1
  have h9 := hok.2.1
  (conv => whnf)
  obtain ⟨htp, h600⟩ := hg.2.2.2.2.2.1
  have egt : gtape (tG J) = t_tp J := rfl
  rw [q_book, egt, ← htp] at hQ
  have e150 : Int32.ofInt 150 = nI 150 := by decide +kernel
  cases hin : t_in m (nI 0) (J 0 1) with
  | false =>
    have f1 : (t_in m (nI 0) (J 0 1) && decide (m ≤ nI 150)) = false := by rw [hin]; rfl
    have hin' : t_in m (Int32.ofInt 0) ((tW J).2.1 0 1) = false := by rw [xl_n.1]; exact hin
    clear hin
    repeat' (first
      | ((with_reducible refine @And.intro (vp_in _ _) _ ?_ ?_); (· (first | with_reducible assumption | ((with_reducible refine t_vin ?_); decide) | ((with_reducible refine vp_in_nI ?_ ?_) <;> first | omega | decide) | (simp (disch := omega) only [xl_n, xl_m, nI_dec, nI_sb, nI_add, pk_mul]; (with_reducible refine vp_in_nI ?_ ?_) <;> first | omega | decide))); (conv => whnf))
      | (refine And.intro (by first | with_reducible assumption | exact (show tL _ = _ from rfl) | decide) ?_; (conv => whnf))
      | ((with_reducible refine @And.intro (_ = _) _ ?_ ?_); (· rfl); (conv => whnf))
      | ((with_reducible refine @And.intro (@LE.le Nat _ _ _) _ ?_ ?_); (· (first | exact Nat.zero_le _ | exact Nat.le_of_ble_eq_true rfl | omega)); (conv => whnf))
      | ((with_reducible refine @And.intro (@LT.lt Nat _ _ _) _ ?_ ?_); (· omega); (conv => whnf))
      | ((with_reducible refine @And.intro (∃ _, _ = _) _ ?_ ?_); (· exact ⟨_, rfl⟩); (conv => whnf))
      | ((with_reducible refine @And.intro (_ ∨ _) _ ?_ ?_); (· (first | exact Or.inl rfl | exact Or.inr rfl | exact t_b01 _ | assumption)); (conv => whnf))
      | ((with_reducible refine @And.intro (¬ (_ = _)) _ ?_ ?_); (· first | assumption | (with_reducible assumption)); (conv => whnf))
      | (refine hX _ _ _ _ _ _ ?_; (conv => whnf); fail_if_success show False)
      | (rw [t_si]; (conv => whnf))
      | (refine ⟨_, rfl, ?_⟩; (conv => whnf))
      | (refine ⟨_, _, rfl, ?_⟩; (conv => whnf))
      | (refine ⟨_, _, _, rfl, ?_⟩; (conv => whnf))
      | (refine ⟨_, _, _, _, rfl, ?_⟩; (conv => whnf))
      | (rw [hin']; (conv => whnf))
      | (refine And.intro (fun c => ?_) (fun c => ?_) <;> (first | (exact absurd c (by decide +kernel)) | (exact absurd c (by assumption)) | (exact False.elim (c (by assumption))) | (conv => whnf)))
      | fail)
    exact t_ref' hQ hg h01 (by simp [f1]) (by decide) rfl rfl
  | true =>
    have hin' : t_in m (Int32.ofInt 0) ((tW J).2.1 0 1) = true := by rw [xl_n.1]; exact hin
    by_cases h150 : m ≤ nI 150
    · rw [hin, decide_eq_true h150, Bool.and_true, g_ck_t] at hQ
      obtain ⟨n, rfl, hn⟩ : ∃ n, m = nI n ∧ n ≤ t_tp J := by
        rw [htp] at hin
        unfold t_in at hin
        rw [Bool.and_eq_true, decide_eq_true_eq, decide_eq_true_eq] at hin
        obtain ⟨j, hj, rfl⟩ := nI_of2 (n := t_tp J) (nI_toInt (by omega)) (Int32.not_lt.mpr (by rw [← nI_0]; exact hin.1)) hin.2
        exact ⟨j, rfl, hj⟩
      have hn150 : n ≤ 150 := by rw [nI_leI (by omega) (by omega)] at h150; exact h150
      obtain ⟨hH, hH9, hP, hP8, -⟩ := id hok
      have hQ : t_P (fun v I => Q v (tW I)) (match p_book (gfed (tG J)) n (J 12 1 - nI 1) (J 12 0 - nI 1) with
        | .inl (c, q) => (nI 0, c - nI 10, g_flt (tG J) q)
        | .inr (L, _) => (nI 0, nI L.length, g_bookd (tG J) L)) := by
        rw [hH, hP]
        rw [nI_clamp (by omega)] at hQ
        exact hQ
      obtain ⟨R, hR⟩ : ∃ R, R = p_book (gfed (tG J)) n (J 12 1 - nI 1) (J 12 0 - nI 1) := ⟨_, rfl⟩
      rw [← hR] at hQ
      have hf : ∀ k, k < n → gfed (tG J) k = J 9 k := fun k hk => if_pos (by omega)
      generalize gfed (tG J) = f at hR hf
      have err47 : ∀ M e o2 o3 o4 o5 o6, t_rdd J M → M 0 1 = nI 0 → t_ps M n (.inl e) → .inl e = R → X 47 [some (.ref 0), some (.int (nI n)), o2, o3, o4, o5, o6] [] (tW M) 0 0 := by
        intro M e o2 o3 o4 o5 o6 hM h1 hp he
        obtain ⟨c0, q⟩ := e
        subst he
        obtain ⟨p5, pn, p6, -⟩ := hp
        have h5 : ¬ M 0 5 = 0 := by rw [p5, ← nI_0]; exact pn
        have fin : ∀ W z, W = xm_u2 M 0 3 (M 0 6) → z = M 0 5 - nI 10 → Q (some (.int z)) (tW W) := fun W z hW hz => t_ended (Q := fun v I => Q v (tW I)) hg hM h1 p5 p6 h01 hQ hW hz
        refine hG _ _ _ _ _ _ ?_
        (conv => whnf)
        repeat' (first
          | ((with_reducible refine @And.intro (vp_in _ _) _ ?_ ?_); (· (first | with_reducible assumption | ((with_reducible refine t_vin ?_); decide) | ((with_reducible refine vp_in_nI ?_ ?_) <;> first | omega | decide) | (simp (disch := omega) only [xl_n, xl_m, nI_dec, nI_sb, nI_add, pk_mul]; (with_reducible refine vp_in_nI ?_ ?_) <;> first | omega | decide))); (conv => whnf))
          | (refine And.intro (by first | with_reducible assumption | exact (show tL _ = _ from rfl) | decide) ?_; (conv => whnf))
          | ((with_reducible refine @And.intro (_ = _) _ ?_ ?_); (· rfl); (conv => whnf))
          | ((with_reducible refine @And.intro (@LE.le Nat _ _ _) _ ?_ ?_); (· (first | exact Nat.zero_le _ | exact Nat.le_of_ble_eq_true rfl | omega)); (conv => whnf))
          | ((with_reducible refine @And.intro (@LT.lt Nat _ _ _) _ ?_ ?_); (· omega); (conv => whnf))
          | ((with_reducible refine @And.intro (∃ _, _ = _) _ ?_ ?_); (· exact ⟨_, rfl⟩); (conv => whnf))
          | ((with_reducible refine @And.intro (_ ∨ _) _ ?_ ?_); (· (first | exact Or.inl rfl | exact Or.inr rfl | exact t_b01 _ | assumption)); (conv => whnf))
          | ((with_reducible refine @And.intro (¬ (_ = _)) _ ?_ ?_); (· first | assumption | (with_reducible assumption)); (conv => whnf))
          | (refine hX _ _ _ _ _ _ ?_; (conv => whnf); fail_if_success show False)
          | (rw [t_si]; (conv => whnf))
          | (refine ⟨_, rfl, ?_⟩; (conv => whnf))
          | (refine ⟨_, _, rfl, ?_⟩; (conv => whnf))
          | (refine ⟨_, _, _, rfl, ?_⟩; (conv => whnf))
          | (refine ⟨_, _, _, _, rfl, ?_⟩; (conv => whnf))
          | (refine And.intro (fun c => ?_) (fun c => ?_) <;> (first | (exact absurd c (by decide +kernel)) | (exact absurd c (by assumption)) | (exact False.elim (c (by assumption))) | (conv => whnf)))
          | fail)
        exact fin _ _ rfl rfl
      have end47 : ∀ M L k o3 o4 o5 o6, t_rdd J M → M 0 1 = nI 0 → t_tx M f n → t_ps M n (.inr k) → ¬ k < n → L.length ≤ 12 → t_bks M 620 L → l_bok (t_p J) (t_h J) L → .inr (L, k) = R → X 47 [some (.ref 0), some (.int (nI n)), some (.int (nI L.length)), o3, o4, o5, o6] [] (tW M) 0 0 := by
        intro M L k o3 o4 o5 o6 hM h1 htM hp hkn hL hbk hbo he
        subst he
        obtain ⟨p5, p4, pk⟩ := hp
        have h5 : M 0 5 = 0 := p5.trans nI_0
        have hQ : ∀ W, t_good W → tG W = g_bookd (tG J) L → W 0 0 = nI 0 → Q (some (.int (nI L.length))) (tW W) := fun W w1 w2 w3 => hQ W w1 w2 w3
        have w2 : (tW M).2.1 0 2 = nI n := htM.1
        have w4 : (tW M).2.1 0 4 = nI k := p4
        have hge : nI n ≤ nI k := nI_le (by omega) (by omega)
        have fin : ∀ W4, t_z (fun b => 600 ≤ b ∧ b < 600 + L.length) (xm_u2 (xm_u2 M 0 3 (Int32.ofInt (-1))) 0 41 (nI L.length)) (fun b i => xm_u2 (xm_u2 M 0 3 (Int32.ofInt (-1))) 0 41 (nI L.length) (620 + (b - 600)) i) (fun b i => (600 ≤ b ∧ b < 600 + L.length) ∧ i < 3) W4 → Q (some (.int (nI L.length))) (tW W4) := by
          intro W4 hW4
          have w4 : ∀ b, b ≠ 0 → ¬ (600 ≤ b ∧ b < 612) → W4 b = M b := fun b hb0 hb => (hW4.1 b (by omega)).trans (funext fun j => by rw [xm_u2_ne hb0, xm_u2_ne hb0])
          have w40 : ∀ k, W4 0 k = xm_u2 (xm_u2 M 0 3 (Int32.ofInt (-1))) 0 41 (nI L.length) 0 k := fun k => by rw [hW4.1 0 (by omega)]
          have w40' : ∀ k, k ≠ 3 → k ≠ 41 → W4 0 k = M 0 k := fun k q1 q2 => by rw [w40, xm_u2_at, if_neg q2, xm_u2_at, if_neg q1]
          obtain ⟨gW, eG⟩ := t_bookd (W := W4) (L := L) hg (fun b q0 q1 q2 => (w4 b q0 (by omega)).trans (hM.1 b q0 q1 (by omega))) (fun k hk => (w40' k (by omega) (by omega)).trans (hM.2 k (by omega) (by omega) (by omega) (by omega) (by omega) (by omega) (by omega) (by omega))) ((w40' 1 (by decide) (by decide)).trans h1) ((w40 3).trans (by rw [xm_u2_at, if_neg (by decide), xm_u2_at, if_pos rfl]; exact xl_m)) ((w40 41).trans (by rw [xm_u2_at, if_pos rfl])) hL (fun j x hx => by
            have hj := (List.getElem?_eq_some_iff.mp hx).1
            have := hbk j x hx
            have e : ∀ i, i < 3 → W4 (600 + j) i = M (620 + j) i := fun i hi => by
              rw [hW4.2 (600 + j) i ⟨by omega, hi⟩]
              show xm_u2 (xm_u2 M 0 3 (Int32.ofInt (-1))) 0 41 (nI L.length) (620 + (600 + j - 600)) i = _
              rw [show 620 + (600 + j - 600) = 620 + j by omega, xm_u2_ne (by omega), xm_u2_ne (by omega)]
            rw [e 0 (by decide), e 1 (by decide), e 2 (by decide)]
            exact this) hbo
          exact hQ W4 gW eG ((w40' 0 (by decide) (by decide)).trans ((hM.2 0 (by decide) (by decide) (by decide) (by decide) (by decide) (by decide) (by decide) (by decide)).trans h01))
        refine hG _ _ _ _ _ _ ?_
        (conv => whnf)
        repeat' (first
          | (refine ⟨32, 31, L.length, rfl, 620, 600, 3, 12, 12, hL, by decide, hL, by decide, by decide, rfl, rfl, fun k hk => ⟨rfl, t_l620 (I := M) (by omega), rfl, t_l600 (I := M) (by omega)⟩, by omega, ?_⟩; (conv => whnf))
          | ((with_reducible refine @And.intro (vp_in _ _) _ ?_ ?_); (· (first | with_reducible assumption | ((with_reducible refine t_vin ?_); decide) | ((with_reducible refine vp_in_nI ?_ ?_) <;> first | omega | decide) | (simp (disch := omega) only [xl_n, xl_m, nI_dec, nI_sb, nI_add, pk_mul]; (with_reducible refine vp_in_nI ?_ ?_) <;> first | omega | decide))); (conv => whnf))
          | (refine And.intro (by first | with_reducible assumption | exact (show tL _ = _ from rfl) | decide) ?_; (conv => whnf))
          | ((with_reducible refine @And.intro (_ = _) _ ?_ ?_); (· rfl); (conv => whnf))
          | ((with_reducible refine @And.intro (@LE.le Nat _ _ _) _ ?_ ?_); (· (first | exact Nat.zero_le _ | exact Nat.le_of_ble_eq_true rfl | omega)); (conv => whnf))
          | ((with_reducible refine @And.intro (@LT.lt Nat _ _ _) _ ?_ ?_); (· omega); (conv => whnf))
          | ((with_reducible refine @And.intro (∃ _, _ = _) _ ?_ ?_); (· exact ⟨_, rfl⟩); (conv => whnf))
          | ((with_reducible refine @And.intro (_ ∨ _) _ ?_ ?_); (· (first | exact Or.inl rfl | exact Or.inr rfl | exact t_b01 _ | assumption)); (conv => whnf))
          | ((with_reducible refine @And.intro (¬ (_ = _)) _ ?_ ?_); (· first | assumption | (with_reducible assumption)); (conv => whnf))
          | (refine hX _ _ _ _ _ _ ?_; (conv => whnf); fail_if_success show False)
          | (rw [t_si]; (conv => whnf))
          | (refine ⟨_, rfl, ?_⟩; (conv => whnf))
          | (refine ⟨_, _, rfl, ?_⟩; (conv => whnf))
          | (refine ⟨_, _, _, rfl, ?_⟩; (conv => whnf))
          | (refine ⟨_, _, _, _, rfl, ?_⟩; (conv => whnf))
          | (rw [w2]; (conv => whnf))
          | (rw [w4]; (conv => whnf))
          | (refine And.intro (fun c => ?_) (fun c => ?_) <;> (first | (exact absurd c (by decide +kernel)) | (exact absurd c (by assumption)) | (exact False.elim (c (by assumption))) | (conv => whnf)))
          | fail)
        intro W4 hW4
        (conv => whnf)
        repeat' (first
          | ((with_reducible refine @And.intro (vp_in _ _) _ ?_ ?_); (· (first | with_reducible assumption | ((with_reducible refine t_vin ?_); decide) | ((with_reducible refine vp_in_nI ?_ ?_) <;> first | omega | decide) | (simp (disch := omega) only [xl_n, xl_m, nI_dec, nI_sb, nI_add, pk_mul]; (with_reducible refine vp_in_nI ?_ ?_) <;> first | omega | decide))); (conv => whnf))
          | (refine And.intro (by first | with_reducible assumption | exact (show tL _ = _ from rfl) | decide) ?_; (conv => whnf))
          | ((with_reducible refine @And.intro (_ = _) _ ?_ ?_); (· rfl); (conv => whnf))
          | ((with_reducible refine @And.intro (@LE.le Nat _ _ _) _ ?_ ?_); (· (first | exact Nat.zero_le _ | exact Nat.le_of_ble_eq_true rfl | omega)); (conv => whnf))
          | ((with_reducible refine @And.intro (@LT.lt Nat _ _ _) _ ?_ ?_); (· omega); (conv => whnf))
          | ((with_reducible refine @And.intro (∃ _, _ = _) _ ?_ ?_); (· exact ⟨_, rfl⟩); (conv => whnf))
          | ((with_reducible refine @And.intro (_ ∨ _) _ ?_ ?_); (· (first | exact Or.inl rfl | exact Or.inr rfl | exact t_b01 _ | assumption)); (conv => whnf))
          | ((with_reducible refine @And.intro (¬ (_ = _)) _ ?_ ?_); (· first | assumption | (with_reducible assumption)); (conv => whnf))
          | (refine hX _ _ _ _ _ _ ?_; (conv => whnf); fail_if_success show False)
          | (rw [t_si]; (conv => whnf))
          | (refine ⟨_, rfl, ?_⟩; (conv => whnf))
          | (refine ⟨_, _, rfl, ?_⟩; (conv => whnf))
          | (refine ⟨_, _, _, rfl, ?_⟩; (conv => whnf))
          | (refine ⟨_, _, _, _, rfl, ?_⟩; (conv => whnf))
          | (refine And.intro (fun c => ?_) (fun c => ?_) <;> (first | (exact absurd c (by decide +kernel)) | (exact absurd c (by assumption)) | (exact False.elim (c (by assumption))) | (conv => whnf)))
          | fail)
        exact fin W4 hW4
      have x98 : ∀ M p0 y he L, t_rdd J M → M 0 1 = nI 0 → t_tx M f n → t_ps M n p0 → t_bks M 620 L →
          (∀ e, p_then (p_st (p_go (p_st (p_go p0 (p_number f n (nI 0) (J 12 1 - nI 1)))) (p_number f n (nI 0) (J 12 0 - nI 1)))) (p_sign f n (nI 59)) = .inl e → .inl e = R) →
          (∀ k4, p_then (p_st (p_go (p_st (p_go p0 (p_number f n (nI 0) (J 12 1 - nI 1)))) (p_number f n (nI 0) (J 12 0 - nI 1)))) (p_sign f n (nI 59)) = .inr k4 → L.length < 12 ∧ ∀ M', t_rdd J M' → M' 0 1 = nI 0 → t_tx M' f n → t_ps M' n (.inr (p_bl f n k4)) → t_bks M' 620 (L ++ [(y, p_v (p_go p0 (p_number f n (nI 0) (J 12 1 - nI 1))), p_v (p_go (p_st (p_go p0 (p_number f n (nI 0) (J 12 1 - nI 1)))) (p_number f n (nI 0) (J 12 0 - nI 1))))]) → X 47 [some (.ref 0), some (.int (nI n)), some (.int (nI (L.length + 1))), some (.int he), some (.int y), some (.int (p_v (p_go p0 (p_number f n (nI 0) (J 12 1 - nI 1))))), some (.int (p_v (p_go (p_st (p_go p0 (p_number f n (nI 0) (J 12 1 - nI 1)))) (p_number f n (nI 0) (J 12 0 - nI 1)))))] [] (tW M') 0 0) →
          ∀ o5 o6, X 98 [some (.ref 0), some (.int (nI n)), some (.int (nI L.length)), some (.int he), some (.int y), o5, o6] [] (tW M) 0 0 := by
        intro M p0 y he L hM h1 htM hp hbk hE hO o5 o6
        have e12p : (tW M).2.1 12 (Int32.ofInt 1).toNatClampNeg = J 12 1 := congrFun (hM.1 12 (by decide) (by omega) (by omega)) 1
        have h59 : ¬ nI 59 = nM := by decide +kernel
        clear end47
        refine hG _ _ _ _ _ _ ?_
        (conv => whnf)
        repeat' (first
          | ((with_reducible refine @And.intro (vp_in _ _) _ ?_ ?_); (· (first | with_reducible assumption | ((with_reducible refine t_vin ?_); decide) | ((with_reducible refine vp_in_nI ?_ ?_) <;> first | omega | decide) | (simp (disch := omega) only [xl_n, xl_m, nI_dec, nI_sb, nI_add, pk_mul]; (with_reducible refine vp_in_nI ?_ ?_) <;> first | omega | decide))); (conv => whnf))
          | (refine And.intro (by first | with_reducible assumption | exact (show tL _ = _ from rfl) | decide) ?_; (conv => whnf))
          | ((with_reducible refine @And.intro (_ = _) _ ?_ ?_); (· rfl); (conv => whnf))
          | ((with_reducible refine @And.intro (@LE.le Nat _ _ _) _ ?_ ?_); (· (first | exact Nat.zero_le _ | exact Nat.le_of_ble_eq_true rfl | omega)); (conv => whnf))
          | ((with_reducible refine @And.intro (@LT.lt Nat _ _ _) _ ?_ ?_); (· omega); (conv => whnf))
          | ((with_reducible refine @And.intro (∃ _, _ = _) _ ?_ ?_); (· exact ⟨_, rfl⟩); (conv => whnf))
          | ((with_reducible refine @And.intro (_ ∨ _) _ ?_ ?_); (· (first | exact Or.inl rfl | exact Or.inr rfl | exact t_b01 _ | assumption)); (conv => whnf))
          | ((with_reducible refine @And.intro (¬ (_ = _)) _ ?_ ?_); (· first | assumption | (with_reducible assumption)); (conv => whnf))
          | (refine hX _ _ _ _ _ _ ?_; (conv => whnf); fail_if_success show False)
          | (rw [t_si]; (conv => whnf))
          | (refine ⟨_, rfl, ?_⟩; (conv => whnf))
          | (refine ⟨_, _, rfl, ?_⟩; (conv => whnf))
          | (refine ⟨_, _, _, rfl, ?_⟩; (conv => whnf))
          | (refine ⟨_, _, _, _, rfl, ?_⟩; (conv => whnf))
          | (rw [e12p]; (conv => whnf))
          | (refine ⟨_, _, (by with_reducible assumption), ?_⟩; (conv => whnf))
          | (refine ⟨_, (by first | with_reducible assumption | exact rfl), ?_⟩; (conv => whnf))
          | (refine And.intro (fun c => ?_) (fun c => ?_) <;> (first | (exact absurd c (by decide +kernel)) | (conv => whnf)))
          | fail)
        intro J1 hJ1 hp1
        have hp1 : t_ps J1 n (p_st (p_go p0 (p_number f n (nI 0) (J 12 1 - nI 1)))) := hp1
        (conv => whnf)
        have e1 : p_v (p_go p0 (p_number f n (Int32.ofInt 0) (J 12 1 - Int32.ofInt 1))) = p_v (p_go p0 (p_number f n (nI 0) (J 12 1 - nI 1))) := rfl
        have rd1 := hM.tr hJ1.rd
        have tx1 := hJ1.tx htM
        have e12h : (tW J1).2.1 12 (Int32.ofInt 0).toNatClampNeg = J 12 0 := congrFun (rd1.1 12 (by decide) (by omega) (by omega)) 0
        generalize p_go p0 (p_number f n (nI 0) (J 12 1 - nI 1)) = r1 at hp1 hE hO e1
        repeat' (first
          | ((with_reducible refine @And.intro (vp_in _ _) _ ?_ ?_); (· (first | with_reducible assumption | ((with_reducible refine t_vin ?_); decide) | ((with_reducible refine vp_in_nI ?_ ?_) <;> first | omega | decide) | (simp (disch := omega) only [xl_n, xl_m, nI_dec, nI_sb, nI_add, pk_mul]; (with_reducible refine vp_in_nI ?_ ?_) <;> first | omega | decide))); (conv => whnf))
          | (refine And.intro (by first | with_reducible assumption | exact (show tL _ = _ from rfl) | decide) ?_; (conv => whnf))
          | ((with_reducible refine @And.intro (_ = _) _ ?_ ?_); (· rfl); (conv => whnf))
          | ((with_reducible refine @And.intro (@LE.le Nat _ _ _) _ ?_ ?_); (· (first | exact Nat.zero_le _ | exact Nat.le_of_ble_eq_true rfl | omega)); (conv => whnf))
          | ((with_reducible refine @And.intro (@LT.lt Nat _ _ _) _ ?_ ?_); (· omega); (conv => whnf))
          | ((with_reducible refine @And.intro (∃ _, _ = _) _ ?_ ?_); (· exact ⟨_, rfl⟩); (conv => whnf))
          | ((with_reducible refine @And.intro (_ ∨ _) _ ?_ ?_); (· (first | exact Or.inl rfl | exact Or.inr rfl | exact t_b01 _ | assumption)); (conv => whnf))
          | ((with_reducible refine @And.intro (¬ (_ = _)) _ ?_ ?_); (· first | assumption | (with_reducible assumption)); (conv => whnf))
          | (refine hX _ _ _ _ _ _ ?_; (conv => whnf); fail_if_success show False)
          | (rw [t_si]; (conv => whnf))
          | (refine ⟨_, rfl, ?_⟩; (conv => whnf))
          | (refine ⟨_, _, rfl, ?_⟩; (conv => whnf))
          | (refine ⟨_, _, _, rfl, ?_⟩; (conv => whnf))
          | (refine ⟨_, _, _, _, rfl, ?_⟩; (conv => whnf))
          | (rw [e1]; (conv => whnf))
          | (rw [e12h]; (conv => whnf))
          | (refine ⟨_, _, (by with_reducible assumption), ?_⟩; (conv => whnf))
          | (refine ⟨_, (by first | with_reducible assumption | exact rfl), ?_⟩; (conv => whnf))
          | (refine And.intro (fun c => ?_) (fun c => ?_) <;> (first | (exact absurd c (by decide +kernel)) | (conv => whnf)))
          | fail)
        intro J2 hJ2 hp2
        have hp2 : t_ps J2 n (p_st (p_go (p_st r1) (p_number f n (nI 0) (J 12 0 - nI 1)))) := hp2
        (conv => whnf)
        have e2 : p_v (p_go (p_st r1) (p_number f n (Int32.ofInt 0) (J 12 0 - Int32.ofInt 1))) = p_v (p_go (p_st r1) (p_number f n (nI 0) (J 12 0 - nI 1))) := rfl
        have rd2 := rd1.tr hJ2.rd
        have tx2 := hJ2.tx tx1
        generalize p_go (p_st r1) (p_number f n (nI 0) (J 12 0 - nI 1)) = r2 at hp2 hE hO e2
        repeat' (first
          | ((with_reducible refine @And.intro (vp_in _ _) _ ?_ ?_); (· (first | with_reducible assumption | ((with_reducible refine t_vin ?_); decide) | ((with_reducible refine vp_in_nI ?_ ?_) <;> first | omega | decide) | (simp (disch := omega) only [xl_n, xl_m, nI_dec, nI_sb, nI_add, pk_mul]; (with_reducible refine vp_in_nI ?_ ?_) <;> first | omega | decide))); (conv => whnf))
          | (refine And.intro (by first | with_reducible assumption | exact (show tL _ = _ from rfl) | decide) ?_; (conv => whnf))
          | ((with_reducible refine @And.intro (_ = _) _ ?_ ?_); (· rfl); (conv => whnf))
          | ((with_reducible refine @And.intro (@LE.le Nat _ _ _) _ ?_ ?_); (· (first | exact Nat.zero_le _ | exact Nat.le_of_ble_eq_true rfl | omega)); (conv => whnf))
          | ((with_reducible refine @And.intro (@LT.lt Nat _ _ _) _ ?_ ?_); (· omega); (conv => whnf))
          | ((with_reducible refine @And.intro (∃ _, _ = _) _ ?_ ?_); (· exact ⟨_, rfl⟩); (conv => whnf))
          | ((with_reducible refine @And.intro (_ ∨ _) _ ?_ ?_); (· (first | exact Or.inl rfl | exact Or.inr rfl | exact t_b01 _ | assumption)); (conv => whnf))
          | ((with_reducible refine @And.intro (¬ (_ = _)) _ ?_ ?_); (· first | assumption | (with_reducible assumption)); (conv => whnf))
          | (refine hX _ _ _ _ _ _ ?_; (conv => whnf); fail_if_success show False)
          | (rw [t_si]; (conv => whnf))
          | (refine ⟨_, rfl, ?_⟩; (conv => whnf))
          | (refine ⟨_, _, rfl, ?_⟩; (conv => whnf))
          | (refine ⟨_, _, _, rfl, ?_⟩; (conv => whnf))
          | (refine ⟨_, _, _, _, rfl, ?_⟩; (conv => whnf))
          | (rw [e2]; (conv => whnf))
          | (refine ⟨_, _, (by with_reducible assumption), ?_⟩; (conv => whnf))
          | (refine ⟨_, (by first | with_reducible assumption | exact rfl), ?_⟩; (conv => whnf))
          | (refine And.intro (fun c => ?_) (fun c => ?_) <;> (first | (exact absurd c (by decide +kernel)) | (conv => whnf)))
          | fail)
        intro J3 hJ3 hp3
        have hp3 : t_ps J3 n (p_then (p_st r2) (p_sign f n (nI 59))) := hp3
        (conv => whnf)
        have rd3 := rd2.tr hJ3.rd
        have tx3 := hJ3.tx tx2
        have b3 : t_bks J3 620 L := fun j x hx => by
          rw [hJ3.1 _ (by omega), hJ2.1 _ (by omega), hJ1.1 _ (by omega)]
          exact hbk j x hx
        have f3 : J3 0 1 = nI 0 := (hJ3.2 1 (by decide) (by decide) (by decide)).trans ((hJ2.2 1 (by decide) (by decide) (by decide)).trans ((hJ1.2 1 (by decide) (by decide) (by decide)).trans h1))
        cases hq : p_then (p_st r2) (p_sign f n (nI 59)) with
        | inl e =>
          rw [hq] at hp3
          have hR := hE e hq
          obtain ⟨k2, hk2, h42⟩ := t_ps_at hp3
          have h5 := t_ps_e hp3
          have hW : t_pf J3 (xm_u2 J3 0 4 (nI (p_bl f n k2))) := t_pf.u (Or.inl rfl)
          have fin := err47 (xm_u2 J3 0 4 (nI (p_bl f n k2))) e (some (.int (nI L.length))) (some (.int he)) (some (.int y)) (some (.int (p_v r1))) (some (.int (p_v r2))) (rd3.tr hW.rd) ((hW.2 1 (by decide) (by decide) (by decide)).trans f3) (by
            obtain ⟨cc, q⟩ := e
            exact ⟨by rw [xm_u2_at, if_neg (by decide)]; exact hp3.1, hp3.2.1, by rw [xm_u2_at, if_neg (by decide)]; exact hp3.2.2.1, _, (p_bl_in (f := f) hk2).2, by rw [xm_u2_at, if_pos rfl]⟩) hR
          clear err47 hO hE
          repeat' (first
            | ((with_reducible refine @And.intro (vp_in _ _) _ ?_ ?_); (· (first | with_reducible assumption | ((with_reducible refine t_vin ?_); decide) | ((with_reducible refine vp_in_nI ?_ ?_) <;> first | omega | decide) | (simp (disch := omega) only [xl_n, xl_m, nI_dec, nI_sb, nI_add, pk_mul]; (with_reducible refine vp_in_nI ?_ ?_) <;> first | omega | decide))); (conv => whnf))
            | (refine And.intro (by first | with_reducible assumption | exact (show tL _ = _ from rfl) | decide) ?_; (conv => whnf))
            | ((with_reducible refine @And.intro (_ = _) _ ?_ ?_); (· rfl); (conv => whnf))
            | ((with_reducible refine @And.intro (@LE.le Nat _ _ _) _ ?_ ?_); (· (first | exact Nat.zero_le _ | exact Nat.le_of_ble_eq_true rfl | omega)); (conv => whnf))
            | ((with_reducible refine @And.intro (@LT.lt Nat _ _ _) _ ?_ ?_); (· omega); (conv => whnf))
            | ((with_reducible refine @And.intro (∃ _, _ = _) _ ?_ ?_); (· exact ⟨_, rfl⟩); (conv => whnf))
            | ((with_reducible refine @And.intro (_ ∨ _) _ ?_ ?_); (· (first | exact Or.inl rfl | exact Or.inr rfl | exact t_b01 _ | assumption)); (conv => whnf))
            | ((with_reducible refine @And.intro (¬ (_ = _)) _ ?_ ?_); (· first | assumption | (with_reducible assumption)); (conv => whnf))
            | (refine hX _ _ _ _ _ _ ?_; (conv => whnf); fail_if_success show False)
            | (rw [t_si]; (conv => whnf))
            | (refine ⟨_, rfl, ?_⟩; (conv => whnf))
            | (refine ⟨_, _, rfl, ?_⟩; (conv => whnf))
            | (refine ⟨_, _, _, rfl, ?_⟩; (conv => whnf))
            | (refine ⟨_, _, _, _, rfl, ?_⟩; (conv => whnf))
            | (refine ⟨_, _, (by with_reducible assumption), ?_⟩; (conv => whnf))
            | (refine ⟨_, (by first | with_reducible assumption | exact rfl), ?_⟩; (conv => whnf))
            | (refine And.intro (fun c => ?_) (fun c => ?_) <;> (first | (exact absurd c (by decide +kernel)) | (exact absurd c (by assumption)) | (exact False.elim (c (by assumption))) | (conv => whnf)))
            | fail)
          exact fin
        | inr k4 =>
          rw [hq] at hp3
          obtain ⟨hl12, hfin⟩ := hO k4 hq
          obtain ⟨p5, p4, pk⟩ := t_ps_n hp3
          have h5 := t_ps_0 hp3
          have o : ∀ b, b ≠ 0 → b ≠ 620 + L.length → xm_u2 (xm_u2 (xm_u2 (xm_u2 J3 (620 + L.length) 0 y) (620 + L.length) 1 (p_v r1)) (620 + L.length) 2 (p_v r2)) 0 4 (nI (p_bl f n k4)) b = J3 b := fun b h1 h2 => funext fun j => by rw [xm_u2_ne h1, xm_u2_ne h2, xm_u2_ne h2, xm_u2_ne h2]
          have tx4 : t_tx (xm_u2 (xm_u2 (xm_u2 J3 (620 + L.length) 0 y) (620 + L.length) 1 (p_v r1)) (620 + L.length) 2 (p_v r2)) f n := ⟨by rw [xm_u2_ne (by omega), xm_u2_ne (by omega), xm_u2_ne (by omega)]; exact tx3.1, tx3.2.1, fun k hk => by rw [xm_u2_ne (by omega), xm_u2_ne (by omega), xm_u2_ne (by omega)]; exact tx3.2.2 k hk⟩
          have p44 : xm_u2 (xm_u2 (xm_u2 J3 (620 + L.length) 0 y) (620 + L.length) 1 (p_v r1)) (620 + L.length) 2 (p_v r2) 0 4 = nI k4 := by rw [xm_u2_ne (by omega), xm_u2_ne (by omega), xm_u2_ne (by omega)]; exact p4
          have fin := hfin (xm_u2 (xm_u2 (xm_u2 (xm_u2 J3 (620 + L.length) 0 y) (620 + L.length) 1 (p_v r1)) (620 + L.length) 2 (p_v r2)) 0 4 (nI (p_bl f n k4))) (rd3.tr ⟨fun b b1 b2 b3 => o b b1 (by omega), fun k _ _ k4 _ _ _ _ _ => by rw [xm_u2_at, if_neg k4, xm_u2_ne (by omega), xm_u2_ne (by omega), xm_u2_ne (by omega)]⟩) (by rw [xm_u2_at, if_neg (by decide), xm_u2_ne (by omega), xm_u2_ne (by omega), xm_u2_ne (by omega)]; exact f3) ((t_pf.u (Or.inl rfl)).tx tx4) ⟨by rw [xm_u2_at, if_neg (by decide), xm_u2_ne (by omega), xm_u2_ne (by omega), xm_u2_ne (by omega)]; exact p5, by rw [xm_u2_at, if_pos rfl], (p_bl_in pk).2⟩ (t_bks_a b3 (fun j hj => o _ (by omega) (by omega)) (by rw [xm_u2_ne (by omega), xm_u2_at, if_neg (by decide), xm_u2_at, if_neg (by decide), xm_u2_at, if_pos rfl]) (by rw [xm_u2_ne (by omega), xm_u2_at, if_neg (by decide), xm_u2_at, if_pos rfl]) (by rw [xm_u2_ne (by omega), xm_u2_at, if_pos rfl]))
          clear err47 hO hE hfin
          repeat' (first
            | ((with_reducible refine @And.intro (vp_in _ _) _ ?_ ?_); (· (first | with_reducible assumption | ((with_reducible refine t_vin ?_); decide) | ((with_reducible refine vp_in_nI ?_ ?_) <;> first | omega | decide) | (simp (disch := omega) only [xl_n, xl_m, nI_dec, nI_sb, nI_add, pk_mul]; (with_reducible refine vp_in_nI ?_ ?_) <;> first | omega | decide))); (conv => whnf))
            | (refine And.intro (by first | with_reducible assumption | exact (show tL _ = _ from rfl) | decide) ?_; (conv => whnf))
            | ((with_reducible refine @And.intro (_ = _) _ ?_ ?_); (· rfl); (conv => whnf))
            | ((with_reducible refine @And.intro (@LE.le Nat _ _ _) _ ?_ ?_); (· (first | exact Nat.zero_le _ | exact Nat.le_of_ble_eq_true rfl | omega)); (conv => whnf))
            | ((with_reducible refine @And.intro (@LT.lt Nat _ _ _) _ ?_ ?_); (· omega); (conv => whnf))
            | ((with_reducible refine @And.intro (∃ _, _ = _) _ ?_ ?_); (· exact ⟨_, rfl⟩); (conv => whnf))
            | ((with_reducible refine @And.intro (_ ∨ _) _ ?_ ?_); (· (first | exact Or.inl rfl | exact Or.inr rfl | exact t_b01 _ | assumption)); (conv => whnf))
            | ((with_reducible refine @And.intro (¬ (_ = _)) _ ?_ ?_); (· first | assumption | (with_reducible assumption)); (conv => whnf))
            | (refine hX _ _ _ _ _ _ ?_; (conv => whnf); fail_if_success show False)
            | (rw [t_si]; simp (disch := omega) only [xl_n, xl_m, nI_dec, nI_sb, xl_0, xl_1, tW_i, t_bn0, t_bn1, Classical.not_not, t_lt, nI_add, nI_1, pk_mul, nI_clamp, t_si, nI_eq, nI_leI, nM_ne, nM_ne, xm_u2_ne, xm_u2_at, reduceIte, tK_u, tA_u, Nat.reduceEqDiff]; (conv => whnf))
            | (refine ⟨_, rfl, ?_⟩; (conv => whnf))
            | (refine ⟨_, _, rfl, ?_⟩; (conv => whnf))
            | (refine ⟨_, _, _, rfl, ?_⟩; (conv => whnf))
            | (refine ⟨_, _, _, _, rfl, ?_⟩; (conv => whnf))
            | (rw [t_l620 (by first | with_reducible assumption | omega | exact vp_lt (by assumption) | (rw [nI_clamp (by omega)]; omega))]; (conv => whnf))
            | (refine ⟨_, _, (by with_reducible assumption), ?_⟩; (conv => whnf))
            | (refine ⟨_, (by first | with_reducible assumption | exact rfl), ?_⟩; (conv => whnf))
            | (refine And.intro (fun c => ?_) (fun c => ?_) <;> (first | (exact absurd c (by decide +kernel)) | (exact absurd c (by assumption)) | (exact False.elim (c (by assumption))) | (conv => whnf)))
            | fail)
          exact fin
      have hpn : ∀ {k k' v}, k ≤ n → p_number f n (nI 0) (J 12 1 - nI 1) k = .inr (v, k') → ∃ p, v = nI p ∧ p < t_p J := fun {k k' v} hk h => by rw [hP] at h; exact p_number_n (by omega) hk h
      have hhn : ∀ {k k' v}, k ≤ n → p_number f n (nI 0) (J 12 0 - nI 1) k = .inr (v, k') → ∃ p, v = nI p ∧ p < t_h J := fun {k k' v} hk h => by rw [hH] at h; exact p_number_n (by omega) hk h
      have loop : ∀ u L k M o3 o4 o5 o6, L.length + u = 12 → t_rdd J M → M 0 1 = nI 0 → t_tx M f n → t_ps M n (.inr k) → t_bks M 620 L → l_bok (t_p J) (t_h J) L → p_bkF f n (J 12 1 - nI 1) (J 12 0 - nI 1) u L k = R → X 47 [some (.ref 0), some (.int (nI n)), some (.int (nI L.length)), o3, o4, o5, o6] [] (tW M) 0 0 := by
        clear hQ hR
        have common : ∀ u L k M o3 o4 o5 o6, L.length + u = 12 → t_rdd J M → M 0 1 = nI 0 → t_tx M f n → t_ps M n (.inr k) → t_bks M 620 L → l_bok (t_p J) (t_h J) L → p_bkF f n (J 12 1 - nI 1) (J 12 0 - nI 1) u L k = R → k < n →
            (∀ y k1, p_number f n (nI 1) (nI 60) k = .inr (y, k1) → u ≠ 0 → ∀ M', t_rdd J M' → M' 0 1 = nI 0 → t_tx M' f n → t_ps M' n (.inr k1) → t_bks M' 620 L → X 98 [some (.ref 0), some (.int (nI n)), some (.int (nI L.length)), some (.int (nI k)), some (.int y), o5, o6] [] (tW M') 0 0) →
            X 47 [some (.ref 0), some (.int (nI n)), some (.int (nI L.length)), o3, o4, o5, o6] [] (tW M) 0 0 := by
          intro u L k M o3 o4 o5 o6 hu hM h1 htM hp hbk hbo hR hkn hgo
          obtain ⟨p5, p4, pk⟩ := t_ps_n hp
          have h5 := t_ps_0 hp
          have w2 : (tW M).2.1 0 2 = nI n := htM.1
          have w4 : (tW M).2.1 0 4 = nI k := p4
          have hlt : ¬ nI n ≤ nI k := nI_ge hkn (by omega)
          clear end47
          refine hG _ _ _ _ _ _ ?_
          (conv => whnf)
          repeat' (first
            | ((with_reducible refine @And.intro (vp_in _ _) _ ?_ ?_); (· (first | with_reducible assumption | ((with_reducible refine t_vin ?_); decide) | ((with_reducible refine vp_in_nI ?_ ?_) <;> first | omega | decide) | (simp (disch := omega) only [xl_n, xl_m, nI_dec, nI_sb, nI_add, pk_mul]; (with_reducible refine vp_in_nI ?_ ?_) <;> first | omega | decide))); (conv => whnf))
            | (refine And.intro (by first | with_reducible assumption | exact (show tL _ = _ from rfl) | decide) ?_; (conv => whnf))
            | ((with_reducible refine @And.intro (_ = _) _ ?_ ?_); (· rfl); (conv => whnf))
            | ((with_reducible refine @And.intro (@LE.le Nat _ _ _) _ ?_ ?_); (· (first | exact Nat.zero_le _ | exact Nat.le_of_ble_eq_true rfl | omega)); (conv => whnf))
            | ((with_reducible refine @And.intro (@LT.lt Nat _ _ _) _ ?_ ?_); (· omega); (conv => whnf))
            | ((with_reducible refine @And.intro (∃ _, _ = _) _ ?_ ?_); (· exact ⟨_, rfl⟩); (conv => whnf))
            | ((with_reducible refine @And.intro (_ ∨ _) _ ?_ ?_); (· (first | exact Or.inl rfl | exact Or.inr rfl | exact t_b01 _ | assumption)); (conv => whnf))
            | ((with_reducible refine @And.intro (¬ (_ = _)) _ ?_ ?_); (· first | assumption | (with_reducible assumption)); (conv => whnf))
            | (refine hX _ _ _ _ _ _ ?_; (conv => whnf); fail_if_success show False)
            | (rw [t_si]; (conv => whnf))
            | (refine ⟨_, rfl, ?_⟩; (conv => whnf))
            | (refine ⟨_, _, rfl, ?_⟩; (conv => whnf))
            | (refine ⟨_, _, _, rfl, ?_⟩; (conv => whnf))
            | (refine ⟨_, _, _, _, rfl, ?_⟩; (conv => whnf))
            | (rw [w2]; (conv => whnf))
            | (rw [w4]; (conv => whnf))
            | (refine ⟨_, _, (by with_reducible assumption), ?_⟩; (conv => whnf))
            | (refine ⟨_, (by first | with_reducible assumption | exact rfl), ?_⟩; (conv => whnf))
            | (refine And.intro (fun c => ?_) (fun c => ?_) <;> (first | (exact absurd c (by decide +kernel)) | (exact absurd c (by assumption)) | (exact False.elim (c (by assumption))) | (conv => whnf)))
            | fail)
          intro J1 hJ1 hp1
          have hp1 : t_ps J1 n (p_st (p_number f n (nI 1) (nI 60) k)) := hp1
          (conv => whnf)
          have e1 : p_v (p_go (.inr k) (p_number f n (Int32.ofInt 1) (Int32.ofInt 60))) = p_v (p_number f n (nI 1) (nI 60) k) := rfl
          have rd1 := hM.tr hJ1.rd
          have tx1 := hJ1.tx htM
          have f1 : J1 0 1 = nI 0 := (hJ1.2 1 (by decide) (by decide) (by decide)).trans h1
          have b1 : t_bks J1 620 L := fun j x hx => by
            rw [hJ1.1 _ (by omega)]
            exact hbk j x hx
          have inl0 : ∀ e p0, p0 = .inl e → p_then (p_st (p_go (p_st (p_go p0 (p_number f n (nI 0) (J 12 1 - nI 1)))) (p_number f n (nI 0) (J 12 0 - nI 1)))) (p_sign f n (nI 59)) = .inl e := fun e p0 h => by rw [h]; rfl
          cases hq : p_number f n (nI 1) (nI 60) k with
          | inl e =>
            rw [hq] at hp1 e1
            have hp1 : t_ps J1 n (.inl e) := hp1
            have hRe : .inl e = R := by
              rw [← hR]
              cases u <;> (unfold p_bkF; rw [if_pos hkn, hq]; rfl)
            have h5' : ¬ J1 0 5 = 0 := t_ps_e hp1
            have fin := x98 J1 (.inl e) (p_v (.inl e)) (nI k) L rd1 f1 tx1 hp1 b1 (fun e' h' => by rw [inl0 e _ rfl] at h'; cases h'; exact hRe) (fun k4 h' => by rw [inl0 e _ rfl] at h'; cases h') o5 o6
            clear x98 err47 hgo
            repeat' (first
              | ((with_reducible refine @And.intro (vp_in _ _) _ ?_ ?_); (· (first | with_reducible assumption | ((with_reducible refine t_vin ?_); decide) | ((with_reducible refine vp_in_nI ?_ ?_) <;> first | omega | decide) | (simp (disch := omega) only [xl_n, xl_m, nI_dec, nI_sb, nI_add, pk_mul]; (with_reducible refine vp_in_nI ?_ ?_) <;> first | omega | decide))); (conv => whnf))
              | (refine And.intro (by first | with_reducible assumption | exact (show tL _ = _ from rfl) | decide) ?_; (conv => whnf))
              | ((with_reducible refine @And.intro (_ = _) _ ?_ ?_); (· rfl); (conv => whnf))
              | ((with_reducible refine @And.intro (@LE.le Nat _ _ _) _ ?_ ?_); (· (first | exact Nat.zero_le _ | exact Nat.le_of_ble_eq_true rfl | omega)); (conv => whnf))
              | ((with_reducible refine @And.intro (@LT.lt Nat _ _ _) _ ?_ ?_); (· omega); (conv => whnf))
              | ((with_reducible refine @And.intro (∃ _, _ = _) _ ?_ ?_); (· exact ⟨_, rfl⟩); (conv => whnf))
              | ((with_reducible refine @And.intro (_ ∨ _) _ ?_ ?_); (· (first | exact Or.inl rfl | exact Or.inr rfl | exact t_b01 _ | assumption)); (conv => whnf))
              | ((with_reducible refine @And.intro (¬ (_ = _)) _ ?_ ?_); (· first | assumption | (with_reducible assumption)); (conv => whnf))
              | (refine hX _ _ _ _ _ _ ?_; (conv => whnf); fail_if_success show False)
              | (rw [t_si]; (conv => whnf))
              | (refine ⟨_, rfl, ?_⟩; (conv => whnf))
              | (refine ⟨_, _, rfl, ?_⟩; (conv => whnf))
              | (refine ⟨_, _, _, rfl, ?_⟩; (conv => whnf))
              | (refine ⟨_, _, _, _, rfl, ?_⟩; (conv => whnf))
              | (rw [e1]; (conv => whnf))
              | (refine And.intro (fun c => ?_) (fun c => ?_) <;> (first | (exact absurd c (by decide +kernel)) | (exact absurd c (by assumption)) | (exact False.elim (c (by assumption))) | (conv => whnf)))
              | fail)
            exact fin
          | inr e =>
            obtain ⟨y, k1⟩ := e
            rw [hq] at hp1 e1
            have e1 : p_v (p_go (.inr k) (p_number f n (Int32.ofInt 1) (Int32.ofInt 60))) = y := e1
            have hp1 : t_ps J1 n (.inr k1) := hp1
            have h5' : J1 0 5 = 0 := t_ps_0 hp1
            by_cases hu0 : u = 0
            · subst hu0
              have hL12 : L.length = 12 := by omega
              have hRe : .inl (nI 3, k) = R := by
                rw [← hR]
                unfold p_bkF
                rw [if_pos hkn, hq]
                rfl
              have hW : t_pf J1 (xm_u2 (xm_u2 J1 0 5 (nI 3)) 0 6 (nI k)) := (t_pf.u (Or.inr (Or.inl rfl))).tr (t_pf.u (Or.inr (Or.inr rfl)))
              have fin := x98 _ (.inl (nI 3, k)) y (nI k) L (rd1.tr hW.rd) ((hW.2 1 (by decide) (by decide) (by decide)).trans f1) (hW.tx tx1) (t_ps_w hp1 (by decide +kernel)) (fun j x hx => by rw [hW.1 _ (by omega)]; exact b1 j x hx) (fun e' h' => by rw [inl0 _ _ rfl] at h'; cases h'; exact hRe) (fun k4 h' => by rw [inl0 _ _ rfl] at h'; cases h') o5 o6
              have e12 : nI L.length = Int32.ofInt 12 := by rw [hL12]; decide +kernel
              clear x98 err47 hgo
              repeat' (first
                | ((with_reducible refine @And.intro (vp_in _ _) _ ?_ ?_); (· (first | with_reducible assumption | ((with_reducible refine t_vin ?_); decide) | ((with_reducible refine vp_in_nI ?_ ?_) <;> first | omega | decide) | (simp (disch := omega) only [xl_n, xl_m, nI_dec, nI_sb, nI_add, pk_mul]; (with_reducible refine vp_in_nI ?_ ?_) <;> first | omega | decide))); (conv => whnf))
                | (refine And.intro (by first | with_reducible assumption | exact (show tL _ = _ from rfl) | decide) ?_; (conv => whnf))
                | ((with_reducible refine @And.intro (_ = _) _ ?_ ?_); (· rfl); (conv => whnf))
                | ((with_reducible refine @And.intro (@LE.le Nat _ _ _) _ ?_ ?_); (· (first | exact Nat.zero_le _ | exact Nat.le_of_ble_eq_true rfl | omega)); (conv => whnf))
                | ((with_reducible refine @And.intro (@LT.lt Nat _ _ _) _ ?_ ?_); (· omega); (conv => whnf))
                | ((with_reducible refine @And.intro (∃ _, _ = _) _ ?_ ?_); (· exact ⟨_, rfl⟩); (conv => whnf))
                | ((with_reducible refine @And.intro (_ ∨ _) _ ?_ ?_); (· (first | exact Or.inl rfl | exact Or.inr rfl | exact t_b01 _ | assumption)); (conv => whnf))
                | ((with_reducible refine @And.intro (¬ (_ = _)) _ ?_ ?_); (· first | assumption | (with_reducible assumption)); (conv => whnf))
                | (refine hX _ _ _ _ _ _ ?_; (conv => whnf); fail_if_success show False)
                | (rw [t_si]; (conv => whnf))
                | (refine ⟨_, rfl, ?_⟩; (conv => whnf))
                | (refine ⟨_, _, rfl, ?_⟩; (conv => whnf))
                | (refine ⟨_, _, _, rfl, ?_⟩; (conv => whnf))
                | (refine ⟨_, _, _, _, rfl, ?_⟩; (conv => whnf))
                | (rw [e1]; (conv => whnf))
                | (refine And.intro (fun c => ?_) (fun c => ?_) <;> (first | (exact absurd c (by decide +kernel)) | (exact absurd c (by assumption)) | (exact False.elim (c (by assumption))) | (conv => whnf)))
                | fail)
              all_goals first
                | exact fin
                | exact absurd hp1.1 (by assumption)
            · have fin := hgo y k1 hq hu0 J1 rd1 f1 tx1 hp1 b1
              have e12 : ¬ nI L.length = Int32.ofInt 12 := fun z => by
                have := congrArg Int32.toNatClampNeg z
                rw [nI_clamp (by omega)] at this
                have e : (Int32.ofInt 12).toNatClampNeg = 12 := by decide +kernel
                omega
              clear x98 err47 hgo
              repeat' (first
                | ((with_reducible refine @And.intro (vp_in _ _) _ ?_ ?_); (· (first | with_reducible assumption | ((with_reducible refine t_vin ?_); decide) | ((with_reducible refine vp_in_nI ?_ ?_) <;> first | omega | decide) | (simp (disch := omega) only [xl_n, xl_m, nI_dec, nI_sb, nI_add, pk_mul]; (with_reducible refine vp_in_nI ?_ ?_) <;> first | omega | decide))); (conv => whnf))
                | (refine And.intro (by first | with_reducible assumption | exact (show tL _ = _ from rfl) | decide) ?_; (conv => whnf))
                | ((with_reducible refine @And.intro (_ = _) _ ?_ ?_); (· rfl); (conv => whnf))
                | ((with_reducible refine @And.intro (@LE.le Nat _ _ _) _ ?_ ?_); (· (first | exact Nat.zero_le _ | exact Nat.le_of_ble_eq_true rfl | omega)); (conv => whnf))
                | ((with_reducible refine @And.intro (@LT.lt Nat _ _ _) _ ?_ ?_); (· omega); (conv => whnf))
                | ((with_reducible refine @And.intro (∃ _, _ = _) _ ?_ ?_); (· exact ⟨_, rfl⟩); (conv => whnf))
                | ((with_reducible refine @And.intro (_ ∨ _) _ ?_ ?_); (· (first | exact Or.inl rfl | exact Or.inr rfl | exact t_b01 _ | assumption)); (conv => whnf))
                | ((with_reducible refine @And.intro (¬ (_ = _)) _ ?_ ?_); (· first | assumption | (with_reducible assumption)); (conv => whnf))
                | (refine hX _ _ _ _ _ _ ?_; (conv => whnf); fail_if_success show False)
                | (rw [t_si]; (conv => whnf))
                | (refine ⟨_, rfl, ?_⟩; (conv => whnf))
                | (refine ⟨_, _, rfl, ?_⟩; (conv => whnf))
                | (refine ⟨_, _, _, rfl, ?_⟩; (conv => whnf))
                | (refine ⟨_, _, _, _, rfl, ?_⟩; (conv => whnf))
                | (rw [e1]; (conv => whnf))
                | (refine And.intro (fun c => ?_) (fun c => ?_) <;> (first | (exact absurd c (by decide +kernel)) | (exact absurd c (by assumption)) | (exact False.elim (c (by assumption))) | (conv => whnf)))
                | fail)
              exact fin
        intro u
        induction u with
        | zero =>
          intro L k M o3 o4 o5 o6 hu hM h1 htM hp hbk hbo hR
          by_cases hkn : k < n
          · exact common 0 L k M o3 o4 o5 o6 hu hM h1 htM hp hbk hbo hR hkn (fun _ _ _ h => absurd rfl h)
          · unfold p_bkF at hR
            rw [if_neg hkn] at hR
            exact end47 M L k o3 o4 o5 o6 hM h1 htM hp hkn (by omega) hbk hbo hR
        | succ u ih =>
          intro L k M o3 o4 o5 o6 hu hM h1 htM hp hbk hbo hR
          by_cases hkn : k < n
          · refine common (u + 1) L k M o3 o4 o5 o6 hu hM h1 htM hp hbk hbo hR hkn (fun y k1 hy _ M' hM' h1' htM' hp' hbk' => ?_)
            unfold p_bkF at hR
            rw [if_pos hkn, hy] at hR
            have hR : (p_go (.inr k1) fun k => p_bd (p_number f n (nI 0) (J 12 1 - nI 1) k) fun p k => p_bd (p_number f n (nI 0) (J 12 0 - nI 1) k) fun h k => p_go (p_sign f n (nI 59) k) fun k => p_bkF f n (J 12 1 - nI 1) (J 12 0 - nI 1) u (L ++ [(y, p, h)]) (p_bl f n k)) = R := hR
            rw [p_chain3] at hR
            have hk1 := (t_ps_n hp').2.2
            have hy60 := (p_number_in (t_ps_n hp).2.2 hy).1
            refine x98 M' (.inr k1) y (nI k) L hM' h1' htM' hp' hbk' (fun e he => by rw [he] at hR; exact hR) (fun k4 he => ⟨by omega, fun M2 m1 m2 m3 m4 m5 => ?_⟩) o5 o6
            rw [he] at hR
            obtain ⟨k3, c1, c2⟩ := p_then_r he
            obtain ⟨v2, c3⟩ := p_st_r c1
            obtain ⟨k2, c4, c5⟩ := p_go_r c3
            obtain ⟨v1, c6⟩ := p_st_r c4
            have c6' : p_number f n (nI 0) (J 12 1 - nI 1) k1 = .inr (v1, k2) := c6
            have hk2 := (p_number_in hk1 c6').2
            obtain ⟨p, rfl, hpp⟩ := hpn hk1 c6'
            obtain ⟨h, rfl, hhh⟩ := hhn hk2 c5
            obtain ⟨z, z1, z2, rfl, -⟩ : ∃ z, 1 ≤ z ∧ z ≤ 60 ∧ y = nI z ∧ True := by
              rcases t_rc y 1 60 (L := nI 1) (H := nI 60) rfl rfl (by omega) (by omega) with ⟨z, z1, z2, z3, -⟩ | ⟨z1, -⟩
              · exact ⟨z, z1, z2, z3, trivial⟩
              · rw [z1] at hy60
                cases hy60
            rw [c3, c6] at hR m5 ⊢
            have hR : p_bkF f n (J 12 1 - nI 1) (J 12 0 - nI 1) u (L ++ [(nI z, nI p, nI h)]) (p_bl f n k4) = R := hR
            have hl : (L ++ [(nI z, nI p, nI h)]).length = L.length + 1 := by simp
            have := ih (L ++ [(nI z, nI p, nI h)]) _ M2 (some (.int (nI k))) (some (.int (nI z))) (some (.int (nI p))) (some (.int (nI h))) (by omega) m1 m2 m3 m4 m5 (l_bok_a hbo hpp hhh z1 z2) hR
            rw [hl] at this
            exact this
          · unfold p_bkF at hR
            rw [if_neg hkn] at hR
            exact end47 M L k o3 o4 o5 o6 hM h1 htM hp hkn (by omega) hbk hbo hR
      have h150' : nI n ≤ Int32.ofInt 150 := by rw [e150]; exact h150
      clear err47 end47 x98
      repeat' (first
        | ((with_reducible refine @And.intro (vp_in _ _) _ ?_ ?_); (· (first | with_reducible assumption | ((with_reducible refine t_vin ?_); decide) | ((with_reducible refine vp_in_nI ?_ ?_) <;> first | omega | decide) | (simp (disch := omega) only [xl_n, xl_m, nI_dec, nI_sb, nI_add, pk_mul]; (with_reducible refine vp_in_nI ?_ ?_) <;> first | omega | decide))); (conv => whnf))
        | (refine And.intro (by first | with_reducible assumption | exact (show tL _ = _ from rfl) | decide) ?_; (conv => whnf))
        | ((with_reducible refine @And.intro (_ = _) _ ?_ ?_); (· rfl); (conv => whnf))
        | ((with_reducible refine @And.intro (@LE.le Nat _ _ _) _ ?_ ?_); (· (first | exact Nat.zero_le _ | exact Nat.le_of_ble_eq_true rfl | omega)); (conv => whnf))
        | ((with_reducible refine @And.intro (@LT.lt Nat _ _ _) _ ?_ ?_); (· omega); (conv => whnf))
        | ((with_reducible refine @And.intro (∃ _, _ = _) _ ?_ ?_); (· exact ⟨_, rfl⟩); (conv => whnf))
        | ((with_reducible refine @And.intro (_ ∨ _) _ ?_ ?_); (· (first | exact Or.inl rfl | exact Or.inr rfl | exact t_b01 _ | assumption)); (conv => whnf))
        | ((with_reducible refine @And.intro (¬ (_ = _)) _ ?_ ?_); (· first | assumption | (with_reducible assumption)); (conv => whnf))
        | (refine hX _ _ _ _ _ _ ?_; (conv => whnf); fail_if_success show False)
        | (rw [t_si]; (conv => whnf))
        | (refine ⟨_, rfl, ?_⟩; (conv => whnf))
        | (refine ⟨_, _, rfl, ?_⟩; (conv => whnf))
        | (refine ⟨_, _, _, rfl, ?_⟩; (conv => whnf))
        | (refine ⟨_, _, _, _, rfl, ?_⟩; (conv => whnf))
        | (rw [hin']; (conv => whnf))
        | (refine And.intro (fun c => ?_) (fun c => ?_) <;> (first | (exact absurd c (by decide +kernel)) | (exact absurd c (by assumption)) | (exact False.elim (c (by assumption))) | (conv => whnf)))
        | fail)
      intro J1 hJ1
      (conv => whnf)
      obtain ⟨b1, b2, b3, b4, b5, b6, b7, b8, b9⟩ := id hJ1
      have ek0 : p_bl (J 9) n 0 = p_bl f n 0 := p_sk_eq fun k hk => (hf k hk).symm
      rw [ek0] at b5
      have fin := loop 12 [] (p_bl f n 0) J1 none none none none rfl hJ1.rd b3 ⟨b4, by omega, fun k hk => by rw [b1 9 (by decide), hf k hk]⟩ ⟨b6, b5, (p_bl_in (Nat.zero_le _)).2⟩ (fun j x hx => by simp at hx) (fun j x hx => by simp at hx) hR.symm
      clear loop
      repeat' (first
        | ((with_reducible refine @And.intro (vp_in _ _) _ ?_ ?_); (· (first | with_reducible assumption | ((with_reducible refine t_vin ?_); decide) | ((with_reducible refine vp_in_nI ?_ ?_) <;> first | omega | decide) | (simp (disch := omega) only [xl_n, xl_m, nI_dec, nI_sb, nI_add, pk_mul]; (with_reducible refine vp_in_nI ?_ ?_) <;> first | omega | decide))); (conv => whnf))
        | (refine And.intro (by first | with_reducible assumption | exact (show tL _ = _ from rfl) | decide) ?_; (conv => whnf))
        | ((with_reducible refine @And.intro (_ = _) _ ?_ ?_); (· rfl); (conv => whnf))
        | ((with_reducible refine @And.intro (@LE.le Nat _ _ _) _ ?_ ?_); (· (first | exact Nat.zero_le _ | exact Nat.le_of_ble_eq_true rfl | omega)); (conv => whnf))
        | ((with_reducible refine @And.intro (@LT.lt Nat _ _ _) _ ?_ ?_); (· omega); (conv => whnf))
        | ((with_reducible refine @And.intro (∃ _, _ = _) _ ?_ ?_); (· exact ⟨_, rfl⟩); (conv => whnf))
        | ((with_reducible refine @And.intro (_ ∨ _) _ ?_ ?_); (· (first | exact Or.inl rfl | exact Or.inr rfl | exact t_b01 _ | assumption)); (conv => whnf))
        | ((with_reducible refine @And.intro (¬ (_ = _)) _ ?_ ?_); (· first | assumption | (with_reducible assumption)); (conv => whnf))
        | (refine hX _ _ _ _ _ _ ?_; (conv => whnf); fail_if_success show False)
        | (rw [t_si]; (conv => whnf))
        | (refine ⟨_, rfl, ?_⟩; (conv => whnf))
        | (refine ⟨_, _, rfl, ?_⟩; (conv => whnf))
        | (refine ⟨_, _, _, rfl, ?_⟩; (conv => whnf))
        | (refine ⟨_, _, _, _, rfl, ?_⟩; (conv => whnf))
        | (refine And.intro (fun c => ?_) (fun c => ?_) <;> (first | (exact absurd c (by decide +kernel)) | (exact absurd c (by assumption)) | (exact False.elim (c (by assumption))) | (conv => whnf)))
        | fail)
      exact fin
    · have f1 : (t_in m (nI 0) (J 0 1) && decide (m ≤ nI 150)) = false := by rw [decide_eq_false h150, Bool.and_false]
      have h150' : ¬ m ≤ Int32.ofInt 150 := by rw [e150]; exact h150
      clear hin
      repeat' (first
        | ((with_reducible refine @And.intro (vp_in _ _) _ ?_ ?_); (· (first | with_reducible assumption | ((with_reducible refine t_vin ?_); decide) | ((with_reducible refine vp_in_nI ?_ ?_) <;> first | omega | decide) | (simp (disch := omega) only [xl_n, xl_m, nI_dec, nI_sb, nI_add, pk_mul]; (with_reducible refine vp_in_nI ?_ ?_) <;> first | omega | decide))); (conv => whnf))
        | (refine And.intro (by first | with_reducible assumption | exact (show tL _ = _ from rfl) | decide) ?_; (conv => whnf))
        | ((with_reducible refine @And.intro (_ = _) _ ?_ ?_); (· rfl); (conv => whnf))
        | ((with_reducible refine @And.intro (@LE.le Nat _ _ _) _ ?_ ?_); (· (first | exact Nat.zero_le _ | exact Nat.le_of_ble_eq_true rfl | omega)); (conv => whnf))
        | ((with_reducible refine @And.intro (@LT.lt Nat _ _ _) _ ?_ ?_); (· omega); (conv => whnf))
        | ((with_reducible refine @And.intro (∃ _, _ = _) _ ?_ ?_); (· exact ⟨_, rfl⟩); (conv => whnf))
        | ((with_reducible refine @And.intro (_ ∨ _) _ ?_ ?_); (· (first | exact Or.inl rfl | exact Or.inr rfl | exact t_b01 _ | assumption)); (conv => whnf))
        | ((with_reducible refine @And.intro (¬ (_ = _)) _ ?_ ?_); (· first | assumption | (with_reducible assumption)); (conv => whnf))
        | (refine hX _ _ _ _ _ _ ?_; (conv => whnf); fail_if_success show False)
        | (rw [t_si]; (conv => whnf))
        | (refine ⟨_, rfl, ?_⟩; (conv => whnf))
        | (refine ⟨_, _, rfl, ?_⟩; (conv => whnf))
        | (refine ⟨_, _, _, rfl, ?_⟩; (conv => whnf))
        | (refine ⟨_, _, _, _, rfl, ?_⟩; (conv => whnf))
        | (rw [hin']; (conv => whnf))
        | (refine And.intro (fun c => ?_) (fun c => ?_) <;> (first | (exact absurd c (by decide +kernel)) | (exact absurd c (by assumption)) | (exact False.elim (c (by assumption))) | (conv => whnf)))
        | fail)
      exact t_ref' hQ hg h01 (by simp [f1]) (by decide) rfl rfl
theorem ct_X11_book {Iv : xI} (hI : xm_good Iv) : xm_Ct Iv yX11_book (ws_ yX11_book cX11_book 7 (some .int)) 4 0 0 S_X11_book := xm_enter (rt := 0) (init := false) (by decide +kernel) rfl (fun h => by cases h) (Or.inl ⟨rfl, rfl⟩) (oX11_book hI) body_X11_book
theorem cv_X11_book {Iv : xI} {own : String} {cc : ByteArray} {fr pc idx : Nat} (hI : xm_good Iv) (hdg : decode cc pc = .ok (.invokevirtual idx, 3)) (hl : xm_ml own idx yX11_book) (hfr : 4 < fr) : xm_CallOK Iv own cc fr pc (pc + 3) 2 0 0 (xm_this 8 S_X11_book) := xm_callV 8 hI (ct_X11_book hI) hdg hl q2277 q2278 q145 q2279 rfl rfl (by decide +kernel) hfr (by decide)
