/-! ===== the reference: casts of acts ===== -/
set_option maxRecDepth 100000
/-- a cast told from the state behind it -/
def g_many (L : List (List Int32)) : Int32 := if L.length ≤ 1000000 then nI L.length else nI 1000000
def g_first (L : List (List Int32)) (k : Nat) : Int32 := (L.headD []).getD k (nI 0)
def g_reach (L : List (List Int32)) (k : Nat) : Int32 := L.foldl (fun r c => r ||| c.getD k (nI 0)) (nI 0)
def g_thumbs (n : Nat) (L : List (List Int32)) : Int32 := L.foldl (fun r c => r &&& g_un c) (nI (2 ^ n) - nI 1)
theorem g_cast_f (L : List (List Int32)) : ∀ s : gC, (L.foldl g_done s).2.1 = L.foldl (fun r c => r &&& g_un c) s.2.1 ∧ ∀ k, (L.foldl g_done s).2.2.2 k = L.foldl (fun r c => r ||| c.getD k (nI 0)) (s.2.2.2 k) := by
  induction L with
  | nil => exact fun s => ⟨rfl, fun _ => rfl⟩
  | cons c L ih =>
    intro s
    obtain ⟨h1, h2⟩ := ih (g_done s c)
    exact ⟨h1, h2⟩
theorem g_cast_1st (L : List (List Int32)) : ∀ s : gC, ¬ s.1 = 0 → (L.foldl g_done s).2.2.1 = s.2.2.1 := by
  induction L with
  | nil => exact fun s _ => rfl
  | cons c L ih =>
    intro s hs
    rw [List.foldl_cons, ih _ (by show ¬ s.1 + 1 = 0; omega)]
    unfold g_done
    rw [if_neg hs]
def g_zero (n : Nat) (fi : Nat → Int32) : gC := (0, nI (2 ^ n) - nI 1, fi, fun _ => nI 0)
/-- behind all casts -/
theorem g_cast_all (n : Nat) (fi : Nat → Int32) (L : List (List Int32)) : (g_cast false L (g_zero n fi)).1 = L.length ∧ (g_cast false L (g_zero n fi)).2.1 = g_thumbs n L ∧ (∀ k, (g_cast false L (g_zero n fi)).2.2.2 k = g_reach L k) := by
  have e : g_cast false L (g_zero n fi) = L.foldl g_done (g_zero n fi) := by simp [g_cast, g_proc]
  rw [e]
  obtain ⟨h1, h2⟩ := g_cast_f L (g_zero n fi)
  refine ⟨?_, h1, h2⟩
  rw [g_done_n]
  show 0 + _ = _
  omega
theorem g_cast_one (n : Nat) (fi : Nat → Int32) (L : List (List Int32)) : (g_cast true L (g_zero n fi)).1 = (if L = [] then 0 else 1) ∧ (¬ L = [] → ∀ k, (g_cast true L (g_zero n fi)).2.2.1 k = g_first L k) := by
  cases L with
  | nil => simp [g_cast, g_proc, g_zero]
  | cons c L => simp [g_cast, g_proc, g_zero, g_done, g_first]
/-- the casts of what P says, by whom is alive -/
def g_castsP (G : gG) (T : gT) (al : Int32) (P : gP) : List (List Int32) := g_cs G T al P (nI 0)
def g_ans (one : Bool) (L : List (List Int32)) : Int32 := if one = true then (if L = [] then nI 0 else nI 1) else g_many L
theorem g_ans_t {L : List (List Int32)} : g_ans true L = if L = [] then nI 0 else nI 1 := rfl
/-- what the state says behind it -/
def t_aft (J : tI) (m n : Nat) (one : Bool) (L : List (List Int32)) : Prop := (one = false → J 0 53 = g_thumbs n L ∧ ∀ k, k < m → J 50 k = g_reach L k) ∧ (one = true → ¬ L = [] → ∀ k, k < m → J 49 k = g_first L k)
theorem t_less_m {a : Nat} (ha : a < 2 ^ 31) : t_less (nI a) (Int32.ofNat 1000000) = if a ≤ 1000000 then nI a else nI 1000000 := by
  show t_less (nI a) (nI 1000000) = _
  unfold t_less
  by_cases q : a < 1000000
  · rw [if_neg (by rw [nI_leI (by omega) ha]; omega), if_pos (by omega)]
  · rw [if_pos (by rw [nI_leI (by omega) ha]; omega)]
    by_cases e : a = 1000000
    · rw [if_pos (by omega), e]
    · rw [if_neg (by omega)]
abbrev bX11_castsNow_0 : List xE := [(.aload_n 0, 1, 0, 0, 0), (.iconst 0, 2, 0, 0, 0), (.putfield 394, 5, 8, 52, 0), (.aload_n 0, 6, 0, 0, 0), (.iconst 1, 7, 0, 0, 0), (.aload_n 0, 8, 0, 0, 0), (.getfield 23, 11, 8, 12, 1), (.iconst 0, 12, 0, 0, 0), (.iaload, 13, 0, 0, 0), (.ishl, 14, 0, 0, 0), (.iconst 1, 15, 0, 0, 0), (.isub, 16, 0, 0, 0), (.putfield 397, 19, 8, 53, 0), (.iconst 0, 20, 0, 0, 0), (.istore 4, 22, 0, 0, 0)]
abbrev bX11_castsNow_22 : List xE := [(.iload 4, 24, 0, 0, 0), (.bipush 12, 26, 0, 0, 0), (.if_icmp .ge 17, 29, 0, 43, 0), (.aload_n 0, 30, 0, 0, 0), (.getfield 118, 33, 8, 50, 1), (.iload 4, 35, 0, 0, 0), (.iconst 0, 36, 0, 0, 0), (.iastore, 37, 0, 0, 0), (.iinc 4 1, 40, 0, 0, 0), (.goto (-18), 43, 0, 22, 0)]
abbrev bX11_castsNow_43 : List xE := [(.aload_n 0, 44, 0, 0, 0), (.aload_n 1, 45, 0, 0, 0), (.iconst 0, 46, 0, 0, 0), (.iconst 0, 47, 0, 0, 0), (.iload_n 2, 48, 0, 0, 0), (.iload_n 3, 49, 0, 0, 0), (.invokevirtual 403, 52, 0, 0, 9), (.aload_n 0, 53, 0, 0, 0), (.getfield 394, 56, 8, 52, 0), (.ldc_w 407, 59, 1000000, 0, 0), (.invokestatic 229, 62, 0, 1, 9), (.ireturn, 63, 0, 0, 0)]
abbrev kX11_castsNow : List (Nat × List xE) := [(0, bX11_castsNow_0), (22, bX11_castsNow_22), (43, bX11_castsNow_43)]
abbrev lX11_castsNow : List (Nat × Nat × Nat × xS) := [(6, 0, 0, xm_this 8 (S_X11_goesCasting 13)), (2, 0, 0, S_X11_less)]
theorem oX11_castsNow_0 {Iv : xI} (hI : xm_good Iv)  : xm_okb Iv RX11 cX11_castsNow false 23 lX11_castsNow bX11_castsNow_0 0 := xo_0 dX11_castsNow_0 rfl trivial (xo_0 dX11_castsNow_1 rfl trivial (xo_0 dX11_castsNow_2 rfl (xm_fp_of (xm_fg_of (Or.inl q2007) (by decide) rfl (by decide) rfl rfl (Or.inl rfl) rfl) (by decide) rfl (Or.inl ⟨rfl, rfl⟩) rfl) (xo_0 dX11_castsNow_5 rfl trivial (xo_0 dX11_castsNow_6 rfl trivial (xo_0 dX11_castsNow_7 rfl trivial (xo_1 dX11_castsNow_8 rfl (xm_fg_of (Or.inl q1967) (by decide) rfl (by decide) rfl rfl (Or.inl rfl) rfl) (xo_0 dX11_castsNow_11 rfl trivial (xo_0 dX11_castsNow_12 rfl trivial (xo_0 dX11_castsNow_13 rfl trivial (xo_0 dX11_castsNow_14 rfl trivial (xo_0 dX11_castsNow_15 rfl trivial (xo_0 dX11_castsNow_16 rfl (xm_fp_of (xm_fg_of (Or.inl q2008) (by decide) rfl (by decide) rfl rfl (Or.inl rfl) rfl) (by decide) rfl (Or.inl ⟨rfl, rfl⟩) rfl) (xo_0 dX11_castsNow_19 rfl trivial (xo_0 dX11_castsNow_20 rfl trivial (xo_n)))))))))))))))
theorem oX11_castsNow_22 {Iv : xI} (hI : xm_good Iv)  : xm_okb Iv RX11 cX11_castsNow false 23 lX11_castsNow bX11_castsNow_22 22 := xo_0 dX11_castsNow_22 rfl trivial (xo_0 dX11_castsNow_24 rfl (xo_bipush (by decide +kernel)) (xo_0 dX11_castsNow_26 rfl rfl (xo_0 dX11_castsNow_29 rfl trivial (xo_1 dX11_castsNow_30 rfl (xm_fg_of (Or.inl q2005) (by decide) rfl (by decide) rfl rfl (Or.inl rfl) rfl) (xo_0 dX11_castsNow_33 rfl trivial (xo_0 dX11_castsNow_35 rfl trivial (xo_0 dX11_castsNow_36 rfl trivial (xo_0 dX11_castsNow_37 rfl trivial (xo_0 dX11_castsNow_40 rfl rfl (xo_n))))))))))
theorem oX11_castsNow_43 {Iv : xI} (hI : xm_good Iv)  : xm_okb Iv RX11 cX11_castsNow false 23 lX11_castsNow bX11_castsNow_43 43 := xo_0 dX11_castsNow_43 rfl trivial (xo_0 dX11_castsNow_44 rfl trivial (xo_0 dX11_castsNow_45 rfl trivial (xo_0 dX11_castsNow_46 rfl trivial (xo_0 dX11_castsNow_47 rfl trivial (xo_0 dX11_castsNow_48 rfl trivial (xo_c rfl (cv_X11_goesCasting hI dX11_castsNow_49 (Or.inl q2431) (by decide)) (xo_0 dX11_castsNow_52 rfl trivial (xo_0 dX11_castsNow_53 rfl (xm_fg_of (Or.inl q2007) (by decide) rfl (by decide) rfl rfl (Or.inl rfl) rfl) (xo_0 dX11_castsNow_56 rfl q2439 (xo_c rfl (cv_X11_less hI dX11_castsNow_59 (Or.inl q2229) (by decide)) (xo_0 dX11_castsNow_62 rfl trivial (xo_n))))))))))))
theorem oX11_castsNow {Iv : xI} (hI : xm_good Iv)  : ∀ q ∈ kX11_castsNow, xm_okb Iv RX11 cX11_castsNow false 23 lX11_castsNow q.2 q.1 := by
  intro q hq
  simp only [List.mem_cons, List.not_mem_nil, or_false] at hq
  rcases hq with rfl | rfl | rfl
  · exact oX11_castsNow_0 hI  
  · exact oX11_castsNow_22 hI  
  · exact oX11_castsNow_43 hI  
def S_X11_castsNow : xS := tU fun as I Q => ∃ row P al one, as = [.ref 0, .ref row, .int al, .int (t_b one)] ∧ t_row row ∧ t_good I ∧ g_need (tG I) ∧ P.length ≤ 12 ∧ (∀ q, q ∈ P → q.1 < t_p I) ∧ t_cp I P ∧ (one = false → P.length ≤ 6) ∧
    ∀ J, t_cf I J → t_aft J P.length (t_h I) one (g_castsP (tG I) (tA I row) al P) → Q (some (.int (g_ans one (g_castsP (tG I) (tA I row) al P)))) J
theorem body_X11_castsNow : xm_Body 5 0 0 0 [] lX11_castsNow kX11_castsNow S_X11_castsNow := by
  intro X avs w Q QX hX0 hS
  have hG := xm_go [] hX0
  have hX := xm_go [22] hX0
  clear hX0
  obtain ⟨I, rfl, row, P, al, one, rfl, hr, hg, hnd, h12, hP, hcp, h6, hQ⟩ := hS
  have hok := hg.1
  obtain ⟨hn, h9, hm, h8, -⟩ := id hok
  have loop : ∀ k, k ≤ 12 → ∀ M, t_cf I M → M 0 52 = nI 0 → M 0 53 = nI (2 ^ t_h I) - nI 1 → (∀ j, j < k → M 50 j = nI 0) → X 22 [some (.ref 0), some (.ref row), some (.int al), some (.int (t_b one)), some (.int (nI k))] [] (tW M) 0 0 := by
    refine t_for fun k h1 ih M hM h52 h53 h50 => ?_
    refine hG _ _ _ _ _ _ ?_
    (conv => whnf)
    repeat' (first
      | ((with_reducible refine @And.intro (vp_in _ _) _ ?_ ?_); (· (first | with_reducible assumption | ((with_reducible refine t_vin ?_); decide) | ((with_reducible refine vp_in_nI ?_ ?_) <;> first | omega | decide) | (simp (disch := omega) only [xl_n, xl_m, nI_dec, nI_sb, nI_add, pk_mul]; (with_reducible refine vp_in_nI ?_ ?_) <;> first | omega | decide))); (conv => whnf))
      | (refine And.intro (by first | with_reducible assumption | exact (show tL _ = _ from rfl) | decide) ?_; (conv => whnf))
      | ((with_reducible refine @And.intro (_ = _) _ ?_ ?_); (· rfl); (conv => whnf))
      | ((with_reducible refine @And.intro (@LE.le Nat _ _ _) _ ?_ ?_); (· (first | exact Nat.zero_le _ | exact Nat.le_of_ble_eq_true rfl | omega)); (conv => whnf))
      | ((with_reducible refine @And.intro (@LT.lt Nat _ _ _) _ ?_ ?_); (· omega); (conv => whnf))
      | ((with_reducible refine @And.intro (∃ _, _ = _) _ ?_ ?_); (· exact ⟨_, rfl⟩); (conv => whnf))
      | ((with_reducible refine @And.intro (_ ∨ _) _ ?_ ?_); (· (first | exact Or.inl rfl | exact Or.inr rfl | exact t_b01 _ | assumption)); (conv => whnf))
      | ((with_reducible refine @And.intro (¬ (_ = _)) _ ?_ ?_); (· first | assumption | (with_reducible assumption)); (conv => whnf))
      | (refine hX _ _ _ _ _ _ ?_; (conv => whnf); fail_if_success show False)
      | (rw [t_si]; (conv => whnf))
      | (refine ⟨_, rfl, ?_⟩; (conv => whnf))
      | (refine ⟨_, _, rfl, ?_⟩; (conv => whnf))
      | (refine ⟨_, _, _, rfl, ?_⟩; (conv => whnf))
      | (refine ⟨_, _, _, _, rfl, ?_⟩; (conv => whnf))
      | fail)
    refine And.intro (fun c => ?_) (fun c => ?_) <;> (conv => whnf)
    · have : k = 12 := Nat.le_antisymm h1 (t_kge (n := 12) rfl c (by omega) (by omega))
      subst this
      clear ih
      have eG := hM.sp.G hg
      have eA : tA M row = tA I row := tA_eq fun j _ => by
        have := t_row_in hr
        rw [hM.1 row (by omega) (by omega) (by omega) (by omega)]
      have hlen : (g_castsP (tG I) (tA I row) al P).length < 2 ^ 31 ∨ one = true := by
        cases one with
        | true => exact Or.inr rfl
        | false => exact Or.inl (Nat.lt_of_le_of_lt (g_cs_lt hnd h9 hP (h6 rfl)) (by decide))
      repeat' (first
        | ((with_reducible refine @And.intro (vp_in _ _) _ ?_ ?_); (· (first | with_reducible assumption | ((with_reducible refine t_vin ?_); decide) | ((with_reducible refine vp_in_nI ?_ ?_) <;> first | omega | decide) | (simp (disch := omega) only [xl_n, xl_m, nI_dec, nI_sb, nI_add, pk_mul]; (with_reducible refine vp_in_nI ?_ ?_) <;> first | omega | decide))); (conv => whnf))
        | (refine And.intro (by first | with_reducible assumption | exact (show tL _ = _ from rfl) | decide) ?_; (conv => whnf))
        | ((with_reducible refine @And.intro (_ = _) _ ?_ ?_); (· rfl); (conv => whnf))
        | ((with_reducible refine @And.intro (@LE.le Nat _ _ _) _ ?_ ?_); (· (first | exact Nat.zero_le _ | exact Nat.le_of_ble_eq_true rfl | omega)); (conv => whnf))
        | ((with_reducible refine @And.intro (@LT.lt Nat _ _ _) _ ?_ ?_); (· omega); (conv => whnf))
        | ((with_reducible refine @And.intro (∃ _, _ = _) _ ?_ ?_); (· exact ⟨_, rfl⟩); (conv => whnf))
        | ((with_reducible refine @And.intro (_ ∨ _) _ ?_ ?_); (· (first | exact Or.inl rfl | exact Or.inr rfl | exact t_b01 _ | assumption)); (conv => whnf))
        | ((with_reducible refine @And.intro (¬ (_ = _)) _ ?_ ?_); (· first | assumption | (with_reducible assumption)); (conv => whnf))
        | (refine hX _ _ _ _ _ _ ?_; (conv => whnf); fail_if_success show False)
        | (rw [t_si]; (conv => whnf))
        | (refine ⟨_, rfl, ?_⟩; (conv => whnf))
        | (refine ⟨_, _, rfl, ?_⟩; (conv => whnf))
        | (refine ⟨_, _, _, rfl, ?_⟩; (conv => whnf))
        | (refine ⟨_, _, _, _, rfl, ?_⟩; (conv => whnf))
        | (refine And.intro (fun c => ?_) (fun c => ?_) <;> (first | (exact absurd c (by decide +kernel)) | (conv => whnf)))
        | fail)
      refine ⟨row, [], P, [], al, one, g_zero (t_h I) (M 49), rfl, hr, hM.sp.good hg, rfl, h12, h12, ?_, hM.cp hcp, ?_, ?_, ?_, ?_⟩
      · rw [t_p_eq (hM.1 12 (by decide) (by decide) (by decide) (by decide))]
        exact hP
      · exact ⟨h52, h53, fun j hj => ⟨rfl, h50 j (Nat.lt_of_lt_of_le hj h12)⟩⟩
      · intro j v hv
        simp at hv
      · rw [eG, eA]
        rcases hlen with q | q
        · cases one with
          | true => exact Or.inl ⟨rfl, Nat.zero_le _⟩
          | false => exact Or.inr ⟨rfl, by show 0 + (g_castsP (tG I) (tA I row) al P).length < _; omega⟩
        · exact Or.inl ⟨q, Nat.zero_le _⟩
      · intro J hJ _ hJs
        rw [eG, eA] at hJs
        have hJs : t_cst J P.length (g_cast one ((g_castsP (tG I) (tA I row) al P).map ([] ++ ·)) (g_zero (t_h I) (M 49))) := hJs
        rw [show (g_castsP (tG I) (tA I row) al P).map ([] ++ ·) = g_castsP (tG I) (tA I row) al P by simp] at hJs
        obtain ⟨j1, j2, j3⟩ := hJs
        (conv => whnf)
        repeat' (first
          | ((with_reducible refine @And.intro (vp_in _ _) _ ?_ ?_); (· (first | with_reducible assumption | ((with_reducible refine t_vin ?_); decide) | ((with_reducible refine vp_in_nI ?_ ?_) <;> first | omega | decide) | (simp (disch := omega) only [xl_n, xl_m, nI_dec, nI_sb, nI_add, pk_mul]; (with_reducible refine vp_in_nI ?_ ?_) <;> first | omega | decide))); (conv => whnf))
          | (refine And.intro (by first | with_reducible assumption | exact (show tL _ = _ from rfl) | decide) ?_; (conv => whnf))
          | ((with_reducible refine @And.intro (_ = _) _ ?_ ?_); (· rfl); (conv => whnf))
          | ((with_reducible refine @And.intro (@LE.le Nat _ _ _) _ ?_ ?_); (· (first | exact Nat.zero_le _ | exact Nat.le_of_ble_eq_true rfl | omega)); (conv => whnf))
          | ((with_reducible refine @And.intro (@LT.lt Nat _ _ _) _ ?_ ?_); (· omega); (conv => whnf))
          | ((with_reducible refine @And.intro (∃ _, _ = _) _ ?_ ?_); (· exact ⟨_, rfl⟩); (conv => whnf))
          | ((with_reducible refine @And.intro (_ ∨ _) _ ?_ ?_); (· (first | exact Or.inl rfl | exact Or.inr rfl | exact t_b01 _ | assumption)); (conv => whnf))
          | ((with_reducible refine @And.intro (¬ (_ = _)) _ ?_ ?_); (· first | assumption | (with_reducible assumption)); (conv => whnf))
          | (refine hX _ _ _ _ _ _ ?_; (conv => whnf); fail_if_success show False)
          | (rw [t_si]; (conv => whnf))
          | (refine ⟨_, rfl, ?_⟩; (conv => whnf))
          | (refine ⟨_, _, rfl, ?_⟩; (conv => whnf))
          | (refine ⟨_, _, _, rfl, ?_⟩; (conv => whnf))
          | (refine ⟨_, _, _, _, rfl, ?_⟩; (conv => whnf))
          | (refine And.intro (fun c => ?_) (fun c => ?_) <;> (first | (exact absurd c (by decide +kernel)) | (conv => whnf)))
          | fail)
        refine t_q (hQ J (hM.tr hJ) ⟨fun e => ?_, fun e hne => ?_⟩) ?_
        · subst e
          obtain ⟨a1, a2, a3⟩ := g_cast_all (t_h I) (M 49) (g_castsP (tG I) (tA I row) al P)
          exact ⟨j2.trans a2, fun k hk => (j3 k hk).2.trans (a3 k)⟩
        · subst e
          obtain ⟨a1, a2⟩ := g_cast_one (t_h I) (M 49) (g_castsP (tG I) (tA I row) al P)
          exact fun k hk => (j3 k hk).1.trans (a2 hne k)
        · show t_less (J 0 52) (Int32.ofNat 1000000) = _
          rw [j1]
          cases one with
          | false =>
            rw [(g_cast_all (t_h I) (M 49) (g_castsP (tG I) (tA I row) al P)).1]
            rcases hlen with q | q
            · rw [t_less_m q]
              rfl
            · cases q
          | true =>
            rw [(g_cast_one (t_h I) (M 49) (g_castsP (tG I) (tA I row) al P)).1, g_ans_t]
            by_cases e : g_castsP (tG I) (tA I row) al P = []
            · rw [if_pos e, if_pos e]
              decide +kernel
            · rw [if_neg e, if_neg e]
              decide +kernel
    · have hk : k < 12 := t_klt (n := 12) rfl c (by omega)
      have := ih (k + 1) (by omega) (by omega) (xm_u2 M 50 k (nI 0)) (hM.tr (t_cf.u (by omega))) (by rw [xm_u2_ne (by decide)]; exact h52) (by rw [xm_u2_ne (by decide)]; exact h53) (fun j hj => by
        rw [xm_u2_at]
        by_cases e : j = k
        · rw [if_pos e]
        · rw [if_neg e]
          exact h50 j (by omega))
      clear ih
      repeat' (first
        | ((with_reducible refine @And.intro (vp_in _ _) _ ?_ ?_); (· (first | with_reducible assumption | ((with_reducible refine t_vin ?_); decide) | ((with_reducible refine vp_in_nI ?_ ?_) <;> first | omega | decide) | (simp (disch := omega) only [xl_n, xl_m, nI_dec, nI_sb, nI_add, pk_mul]; (with_reducible refine vp_in_nI ?_ ?_) <;> first | omega | decide))); (conv => whnf))
        | (refine And.intro (by first | with_reducible assumption | exact (show tL _ = _ from rfl) | decide) ?_; (conv => whnf))
        | ((with_reducible refine @And.intro (_ = _) _ ?_ ?_); (· rfl); (conv => whnf))
        | ((with_reducible refine @And.intro (@LE.le Nat _ _ _) _ ?_ ?_); (· (first | exact Nat.zero_le _ | exact Nat.le_of_ble_eq_true rfl | omega)); (conv => whnf))
        | ((with_reducible refine @And.intro (@LT.lt Nat _ _ _) _ ?_ ?_); (· omega); (conv => whnf))
        | ((with_reducible refine @And.intro (∃ _, _ = _) _ ?_ ?_); (· exact ⟨_, rfl⟩); (conv => whnf))
        | ((with_reducible refine @And.intro (_ ∨ _) _ ?_ ?_); (· (first | exact Or.inl rfl | exact Or.inr rfl | exact t_b01 _ | assumption)); (conv => whnf))
        | ((with_reducible refine @And.intro (¬ (_ = _)) _ ?_ ?_); (· first | assumption | (with_reducible assumption)); (conv => whnf))
        | (refine hX _ _ _ _ _ _ ?_; (conv => whnf); fail_if_success show False)
        | (rw [t_si]; (conv => whnf))
        | (refine ⟨_, rfl, ?_⟩; (conv => whnf))
        | (refine ⟨_, _, rfl, ?_⟩; (conv => whnf))
        | (refine ⟨_, _, _, rfl, ?_⟩; (conv => whnf))
        | (refine ⟨_, _, _, _, rfl, ?_⟩; (conv => whnf))
        | (refine And.intro (fun c => ?_) (fun c => ?_) <;> (first | (exact absurd c (by decide +kernel)) | (conv => whnf)))
        | fail)
      clear hX hG hQ
      simp (disch := omega) only [xl_n, xl_m, nI_dec, nI_sb, xl_0, xl_1, tW_i, t_bn0, t_bn1, Classical.not_not, t_lt, nI_add, nI_1, pk_mul, nI_clamp, t_si, nI_eq, nI_leI, nM_ne, nM_ne, xm_set, xm_lv0, xm_psh] at *
      exact this
  refine ⟨rfl, ?_⟩
  repeat' (first
    | ((with_reducible refine @And.intro (vp_in _ _) _ ?_ ?_); (· (first | with_reducible assumption | ((with_reducible refine t_vin ?_); decide) | ((with_reducible refine vp_in_nI ?_ ?_) <;> first | omega | decide) | (simp (disch := omega) only [xl_n, xl_m, nI_dec, nI_sb, nI_add, pk_mul]; (with_reducible refine vp_in_nI ?_ ?_) <;> first | omega | decide))); (conv => whnf))
    | (refine And.intro (by first | with_reducible assumption | exact (show tL _ = _ from rfl) | decide) ?_; (conv => whnf))
    | ((with_reducible refine @And.intro (_ = _) _ ?_ ?_); (· rfl); (conv => whnf))
    | ((with_reducible refine @And.intro (@LE.le Nat _ _ _) _ ?_ ?_); (· (first | exact Nat.zero_le _ | exact Nat.le_of_ble_eq_true rfl | omega)); (conv => whnf))
    | ((with_reducible refine @And.intro (@LT.lt Nat _ _ _) _ ?_ ?_); (· omega); (conv => whnf))
    | ((with_reducible refine @And.intro (∃ _, _ = _) _ ?_ ?_); (· exact ⟨_, rfl⟩); (conv => whnf))
    | ((with_reducible refine @And.intro (_ ∨ _) _ ?_ ?_); (· (first | exact Or.inl rfl | exact Or.inr rfl | exact t_b01 _ | assumption)); (conv => whnf))
    | ((with_reducible refine @And.intro (¬ (_ = _)) _ ?_ ?_); (· first | assumption | (with_reducible assumption)); (conv => whnf))
    | (refine hX _ _ _ _ _ _ ?_; (conv => whnf); fail_if_success show False)
    | (rw [t_si]; (conv => whnf))
    | (refine ⟨_, rfl, ?_⟩; (conv => whnf))
    | (refine ⟨_, _, rfl, ?_⟩; (conv => whnf))
    | (refine ⟨_, _, _, rfl, ?_⟩; (conv => whnf))
    | (refine ⟨_, _, _, _, rfl, ?_⟩; (conv => whnf))
    | (refine And.intro (fun c => ?_) (fun c => ?_) <;> (first | (exact absurd c (by decide +kernel)) | (conv => whnf)))
    | fail)
  have e1 : Int32.ofInt 1 <<< (I 12 (Int32.ofInt 0).toNatClampNeg &&& 31) = nI (2 ^ t_h I) := by
    show nI 1 <<< (I 12 0 &&& 31) = _
    rw [hn]
    exact t_2n _ h9
  trace_state
  exact loop 0 (Nat.zero_le _) _ (t_cf.tr (t_cf.uf (Or.inl rfl)) (t_cf.uf (Or.inr rfl))) (by rw [xm_u2_at, if_neg (by decide), xm_u2_at, if_pos rfl]; exact xl_n.1) (by rw [xm_u2_at, if_pos rfl]; exact congrArg (· - nI 1) e1) (fun j hj => by omega)
theorem ct_X11_castsNow {Iv : xI} (hI : xm_good Iv) : xm_Ct Iv yX11_castsNow (ws_ yX11_castsNow cX11_castsNow 5 (some .int)) 23 0 0 S_X11_castsNow := xm_enter (rt := 0) (init := false) (by decide +kernel) rfl (fun h => by cases h) (Or.inl ⟨rfl, rfl⟩) (oX11_castsNow hI) body_X11_castsNow
theorem cv_X11_castsNow {Iv : xI} {own : String} {cc : ByteArray} {fr pc idx : Nat} (hI : xm_good Iv) (hdg : decode cc pc = .ok (.invokevirtual idx, 3)) (hl : xm_ml own idx yX11_castsNow) (hfr : 23 < fr) : xm_CallOK Iv own cc fr pc (pc + 3) 4 0 0 (xm_this 8 S_X11_castsNow) := xm_callV 8 hI (ct_X11_castsNow hI) hdg hl q2429 qs102 q145 q2430 rfl rfl (by decide +kernel) hfr (by decide)
