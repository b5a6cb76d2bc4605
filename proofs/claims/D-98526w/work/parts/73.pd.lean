/-! ===== the reference: words ===== -/
set_option maxRecDepth 100000
def p_wd (L : List Nat) : Int64 := if L.length ≤ 7 then lN (p_code L) else Int64.ofNat 18446744073709551615
theorem p_lN_inj {a b : Nat} (ha : a < 2 ^ 62) (hb : b < 2 ^ 62) (h : lN a = lN b) : a = b := by
  have h1 : (lN a).toInt = (a : Int) := lg_ofNat_toInt (by omega)
  have h2 : (lN b).toInt = (b : Int) := lg_ofNat_toInt (by omega)
  rw [h, h2] at h1
  omega
theorem p_lN_m {a : Nat} (ha : a < 2 ^ 62) : ¬ Int64.ofNat 18446744073709551615 = lN a := by
  intro h
  have h1 : (lN a).toInt = (a : Int) := lg_ofNat_toInt (by omega)
  have h2 : (Int64.ofNat 18446744073709551615).toInt = -1 := by decide +kernel
  rw [← h, h2] at h1
  omega
theorem p_code_62 {L : List Nat} (h : ∀ d, d ∈ L → d ≤ 26) (h7 : L.length ≤ 7) : p_code L < 2 ^ 62 := by
  have h1 := p_code_lt L h
  have h2 : 27 ^ L.length ≤ 27 ^ 7 := Nat.pow_le_pow_right (by omega) h7
  have h3 : 27 ^ 7 < 2 ^ 62 := by decide
  omega
/-- the word's number is that of a good word: it is that word -/
theorem p_wd_eq {a b c d e f g : Int32} (hk : p_kok a b c d e f g) {L : List Nat} (hL : ∀ d, d ∈ L → 1 ≤ d ∧ d ≤ 26) : (p_wd L = p_sv a b c d e f g) = (L = p_kw a b c d e f g) := by
  obtain ⟨k1, k2, k3⟩ := hk
  have k4 : ∀ d', d' ∈ p_kw a b c d e f g → 1 ≤ d' ∧ d' ≤ 26 := fun d' hd => by
    have := List.all_eq_true.mp k3 d' hd
    simp only [Bool.and_eq_true] at this
    exact ⟨Nat.le_of_ble_eq_true this.1, Nat.le_of_ble_eq_true this.2⟩
  rw [k1]
  unfold p_wd
  by_cases q : L.length ≤ 7
  · rw [if_pos q]
    refine propext ⟨fun h => ?_, fun h => by rw [h]⟩
    exact p_code_inj _ (Nat.le_refl _) hL k4 (p_lN_inj (p_code_62 (fun d hd => (hL d hd).2) q) (p_code_62 (fun d hd => (k4 d hd).2) k2) h)
  · rw [if_neg q]
    refine propext ⟨fun h => absurd h (p_lN_m (p_code_62 (fun d hd => (k4 d hd).2) k2)), fun h => ?_⟩
    rw [h] at q
    exact absurd k2 q
theorem p_take_s {L : List Nat} {i d : Nat} (h : L[i]? = some d) : L.take (i + 1) = L.take i ++ [d] := by
  rw [List.take_succ, h]
  rfl
theorem p_ls_at {f : Nat → Int32} {n k i : Nat} (h : i < (p_ls f n k).length) : (p_ls f n k)[i]? = some (p_let (f (k + i))) := by
  rw [p_ls_n] at h
  unfold p_ls
  rw [List.getElem?_map, List.getElem?_range h]
  rfl
theorem p_sk_all {q : Int32 → Bool} {f : Nat → Int32} {n : Nat} : ∀ {u k i : Nat}, n - k ≤ u → k + i < p_sk q f n k → q (f (k + i)) = true
  | 0, k, i, h, hi => by
    rw [p_sk_f (fun z => by omega)] at hi
    omega
  | u + 1, k, i, h, hi => by
    by_cases c : k < n ∧ q (f k) = true
    · cases i with
      | zero => exact c.2
      | succ i =>
        rw [p_sk_t c.1 c.2] at hi
        have := p_sk_all (q := q) (f := f) (n := n) (u := u) (k := k + 1) (i := i) (by omega) (by omega)
        rw [show k + (i + 1) = k + 1 + i by omega]
        exact this
    · rw [p_sk_f (fun z => by
        cases e : q (f k) with
        | false => rfl
        | true => exact absurd ⟨z, e⟩ c)] at hi
      omega
abbrev bX11_wordHere_0 : List xE := [(.aload_n 0, 1, 0, 0, 0), (.invokevirtual 156, 4, 0, 0, 9), (.lconst 0, 5, 0, 0, 0), (.lstore_n 1, 6, 0, 0, 0), (.iconst 0, 7, 0, 0, 0), (.istore_n 3, 8, 0, 0, 0)]
abbrev bX11_wordHere_8 : List xE := [(.aload_n 0, 9, 0, 0, 0), (.aload_n 0, 10, 0, 0, 0), (.getfield 143, 13, 8, 4, 0), (.iload_n 3, 14, 0, 0, 0), (.iadd, 15, 0, 0, 0), (.invokevirtual 146, 18, 0, 1, 9), (.invokestatic 172, 21, 0, 2, 9), (.ifCond .eq 43, 24, 0, 64, 0), (.iload_n 3, 25, 0, 0, 0), (.bipush 7, 27, 0, 0, 0), (.if_icmp .ge 29, 30, 0, 56, 0), (.ldc2_w 175, 33, 27, 0, 0), (.lload_n 1, 34, 0, 0, 0), (.lmul, 35, 0, 0, 0), (.aload_n 0, 36, 0, 0, 0), (.aload_n 0, 37, 0, 0, 0), (.getfield 143, 40, 8, 4, 0), (.iload_n 3, 41, 0, 0, 0), (.iadd, 42, 0, 0, 0), (.invokevirtual 146, 45, 0, 1, 9), (.i2l, 46, 0, 0, 0), (.ladd, 47, 0, 0, 0), (.ldc2_w 177, 50, 97, 0, 0), (.lsub, 51, 0, 0, 0), (.lconst 1, 52, 0, 0, 0), (.ladd, 53, 0, 0, 0), (.goto 4, 56, 0, 57, 0)]
abbrev bX11_wordHere_56 : List xE := [(.lload_n 1, 57, 0, 0, 0)]
abbrev bX11_wordHere_57 : List xE := [(.lstore_n 1, 58, 0, 0, 0), (.iinc 3 1, 61, 0, 0, 0), (.goto (-53), 64, 0, 8, 0)]
abbrev bX11_wordHere_64 : List xE := [(.iload_n 3, 65, 0, 0, 0), (.bipush 7, 67, 0, 0, 0), (.if_icmp .le 9, 70, 0, 76, 0), (.ldc2_w 179, 73, 18446744073709551615, 0, 0), (.goto 4, 76, 0, 77, 0)]
abbrev bX11_wordHere_76 : List xE := [(.lload_n 1, 77, 0, 0, 0)]
abbrev bX11_wordHere_77 : List xE := [(.lreturn, 78, 0, 0, 0)]
abbrev kX11_wordHere : List (Nat × List xE) := [(0, bX11_wordHere_0), (8, bX11_wordHere_8), (56, bX11_wordHere_56), (57, bX11_wordHere_57), (64, bX11_wordHere_64), (76, bX11_wordHere_76), (77, bX11_wordHere_77)]
abbrev lX11_wordHere : List (Nat × Nat × Nat × xS) := [(1, 0, 0, xm_this 8 S_X11_blanks), (2, 0, 0, xm_this 8 S_X11_byteAt), (1, 0, 0, S_X11_isSmall)]
theorem oX11_wordHere_0 {Iv : xI} (hI : xm_good Iv)  : xm_okb Iv RX11 cX11_wordHere false 3 lX11_wordHere bX11_wordHere_0 0 := xo_0 dX11_wordHere_0 rfl trivial (xo_c rfl (cv_X11_blanks hI dX11_wordHere_1 (Or.inl q2145) (by decide)) (xo_0 dX11_wordHere_4 rfl trivial (xo_0 dX11_wordHere_5 rfl trivial (xo_0 dX11_wordHere_6 rfl trivial (xo_0 dX11_wordHere_7 rfl trivial (xo_n))))))
theorem oX11_wordHere_8 {Iv : xI} (hI : xm_good Iv)  : xm_okb Iv RX11 cX11_wordHere false 3 lX11_wordHere bX11_wordHere_8 8 := xo_0 dX11_wordHere_8 rfl trivial (xo_0 dX11_wordHere_9 rfl trivial (xo_0 dX11_wordHere_10 rfl (xm_fg_of (Or.inl q1959) (by decide) rfl (by decide) rfl rfl (Or.inl rfl) rfl) (xo_0 dX11_wordHere_13 rfl trivial (xo_0 dX11_wordHere_14 rfl trivial (xo_c rfl (cv_X11_byteAt hI dX11_wordHere_15 (Or.inl q2149) (by decide)) (xo_c rfl (cv_X11_isSmall hI dX11_wordHere_18 (Or.inl q2169) (by decide)) (xo_0 dX11_wordHere_21 rfl rfl (xo_0 dX11_wordHere_24 rfl trivial (xo_0 dX11_wordHere_25 rfl (xo_bipush (by decide +kernel)) (xo_0 dX11_wordHere_27 rfl rfl (xo_0 dX11_wordHere_30 rfl q2172 (xo_0 dX11_wordHere_33 rfl trivial (xo_0 dX11_wordHere_34 rfl trivial (xo_0 dX11_wordHere_35 rfl trivial (xo_0 dX11_wordHere_36 rfl trivial (xo_0 dX11_wordHere_37 rfl (xm_fg_of (Or.inl q1959) (by decide) rfl (by decide) rfl rfl (Or.inl rfl) rfl) (xo_0 dX11_wordHere_40 rfl trivial (xo_0 dX11_wordHere_41 rfl trivial (xo_c rfl (cv_X11_byteAt hI dX11_wordHere_42 (Or.inl q2149) (by decide)) (xo_0 dX11_wordHere_45 rfl trivial (xo_0 dX11_wordHere_46 rfl trivial (xo_0 dX11_wordHere_47 rfl q2173 (xo_0 dX11_wordHere_50 rfl trivial (xo_0 dX11_wordHere_51 rfl trivial (xo_0 dX11_wordHere_52 rfl trivial (xo_0 dX11_wordHere_53 rfl rfl (xo_n)))))))))))))))))))))))))))
theorem oX11_wordHere_56 {Iv : xI} (hI : xm_good Iv)  : xm_okb Iv RX11 cX11_wordHere false 3 lX11_wordHere bX11_wordHere_56 56 := xo_0 dX11_wordHere_56 rfl trivial (xo_n)
theorem oX11_wordHere_57 {Iv : xI} (hI : xm_good Iv)  : xm_okb Iv RX11 cX11_wordHere false 3 lX11_wordHere bX11_wordHere_57 57 := xo_0 dX11_wordHere_57 rfl trivial (xo_0 dX11_wordHere_58 rfl trivial (xo_0 dX11_wordHere_61 rfl rfl (xo_n)))
theorem oX11_wordHere_64 {Iv : xI} (hI : xm_good Iv)  : xm_okb Iv RX11 cX11_wordHere false 3 lX11_wordHere bX11_wordHere_64 64 := xo_0 dX11_wordHere_64 rfl trivial (xo_0 dX11_wordHere_65 rfl (xo_bipush (by decide +kernel)) (xo_0 dX11_wordHere_67 rfl rfl (xo_0 dX11_wordHere_70 rfl q2174 (xo_0 dX11_wordHere_73 rfl rfl (xo_n)))))
theorem oX11_wordHere_76 {Iv : xI} (hI : xm_good Iv)  : xm_okb Iv RX11 cX11_wordHere false 3 lX11_wordHere bX11_wordHere_76 76 := xo_0 dX11_wordHere_76 rfl trivial (xo_n)
theorem oX11_wordHere_77 {Iv : xI} (hI : xm_good Iv)  : xm_okb Iv RX11 cX11_wordHere false 3 lX11_wordHere bX11_wordHere_77 77 := xo_0 dX11_wordHere_77 rfl trivial (xo_n)
theorem oX11_wordHere {Iv : xI} (hI : xm_good Iv)  : ∀ q ∈ kX11_wordHere, xm_okb Iv RX11 cX11_wordHere false 3 lX11_wordHere q.2 q.1 := by
  intro q hq
  simp only [List.mem_cons, List.not_mem_nil, or_false] at hq
  rcases hq with rfl | rfl | rfl | rfl | rfl | rfl | rfl
  · exact oX11_wordHere_0 hI  
  · exact oX11_wordHere_8 hI  
  · exact oX11_wordHere_56 hI  
  · exact oX11_wordHere_57 hI  
  · exact oX11_wordHere_64 hI  
  · exact oX11_wordHere_76 hI  
  · exact oX11_wordHere_77 hI  
def S_X11_wordHere : xS := tU fun as I Q => as = [.ref 0] ∧ ∃ f n, t_tx I f n ∧ ∃ k, I 0 4 = nI k ∧ k ≤ n ∧ Q (some (.long (p_wd (p_ls f n (p_bl f n k))))) (xm_u2 I 0 4 (nI (p_bl f n k)))
theorem body_X11_wordHere : xm_Body 4 4 0 0 [] lX11_wordHere kX11_wordHere S_X11_wordHere := by
  intro X avs w Q QX hX0 hS
  have hG := xm_go [] hX0
  have hX := xm_go [8] hX0
  clear hX0
  obtain ⟨I, rfl, rfl, f, n, ht, k, h4, hk, hQ⟩ := hS
  have hn := ht.2.1
  obtain ⟨hb1, hb2⟩ := p_bl_in (f := f) hk
  generalize hb : p_bl f n k = b at hb1 hb2 hQ
  have e7 : Int32.ofInt 7 = nI 7 := by decide +kernel
  have hW : t_pf I (xm_u2 I 0 4 (nI b)) := t_pf.u (Or.inl rfl)
  have htb := hW.tx ht
  have hle := p_le_in (f := f) hb2
  have hlen : (p_ls f n b).length = p_le f n b - b := p_ls_n
  have loop : ∀ i, i ≤ (p_ls f n b).length → X 8 [some (.ref 0), some (.long (lN (p_code ((p_ls f n b).take (min i 7))))), none, some (.int (nI i))] [] (tW (xm_u2 I 0 4 (nI b))) 0 0 := by
    refine t_for fun i h1 ih => ?_
    have e4 : (tW (xm_u2 I 0 4 (nI b))).2.1 0 4 + nI i = nI (b + i) := by
      rw [tW_i, xm_u2_at, if_pos rfl, nI_add]
    have hbi : b + i < 2000 := by omega
    rcases Nat.lt_or_ge i (p_ls f n b).length with hi | hi
    · have hbn : b + i < n := by omega
      have hlet : t_let (f (b + i)) = true := p_sk_all (q := t_let) (Nat.le_refl _) (by show b + i < p_le f n b; omega)
      obtain ⟨d, hd1, hd2, ed⟩ := t_let_of hlet
      have hat : p_at f n (b + i) = nI (d + 96) := by rw [p_at_t hbn, ed]
      have hltt : t_let (nI (d + 96)) = true := by rw [← ed]; exact hlet
      have hLi : (p_ls f n b)[i]? = some d := by rw [p_ls_at hi, ed, p_let_of hd2]
      have := ih (i + 1) (by omega) (by omega)
      clear ih
      refine hG _ _ _ _ _ _ ?_
      (conv => whnf)
      repeat' (first
        | (refine ⟨b + i, congrArg (fun x => [Value.ref 0, Value.int x]) e4, ?_⟩; (conv => whnf))
        | ((with_reducible refine @And.intro (vp_in _ _) _ ?_ ?_); (· (first | with_reducible assumption | ((with_reducible refine t_vin ?_); decide) | ((with_reducible refine vp_in_nI ?_ ?_) <;> first | omega | decide) | (simp (disch := omega) only [xl_n, xl_m, nI_dec, nI_sb, nI_add, pk_mul]; (with_reducible refine vp_in_nI ?_ ?_) <;> first | omega | decide))); (conv => whnf))
        | (refine And.intro (by first | with_reducible assumption | exact (show tL _ = _ from rfl) | decide) ?_; (conv => whnf))
        | ((with_reducible refine @And.intro (_ = _) _ ?_ ?_); (· rfl); (conv => whnf))
        | ((with_reducible refine @And.intro (@LE.le Nat _ _ _) _ ?_ ?_); (· (first | exact Nat.zero_le _ | exact Nat.le_of_ble_eq_true rfl | omega)); (conv => whnf))
        | ((with_reducible refine @And.intro (@LT.lt Nat _ _ _) _ ?_ ?_); (· omega); (conv => whnf))
        | ((with_reducible refine @And.intro (∃ _, _ = _) _ ?_ ?_); (· exact ⟨_, rfl⟩); (conv => whnf))
        | ((with_reducible refine @And.intro (_ ∨ _) _ ?_ ?_); (· (first | exact Or.inl rfl | exact Or.inr rfl | exact t_b01 _ | assumption)); (conv => whnf))
        | ((with_reducible refine @And.intro (¬ (_ = _)) _ ?_ ?_); (· first | assumption | (with_reducible assumption)); (conv => whnf))
        | (refine hX _ _ _ _ _ _ ?_; (conv => whnf); fail_if_success show False)
        | (rw [t_si]; (conv => whnf))
        | (refine ⟨_, rfl, ?_⟩; (conv => whnf))
        | (refine ⟨_, _, rfl, ?_⟩; (conv => whnf))
        | (refine ⟨_, _, _, rfl, ?_⟩; (conv => whnf))
        | (refine ⟨_, _, _, _, rfl, ?_⟩; (conv => whnf))
        | (rw [hat]; (conv => whnf))
        | (rw [hltt]; (conv => whnf))
        | (refine ⟨_, _, (by with_reducible assumption), ?_⟩; (conv => whnf))
        | (refine ⟨_, (by first | with_reducible assumption | exact rfl), ?_⟩; (conv => whnf))
        | (refine And.intro (fun c => ?_) (fun c => ?_) <;> (first | (exact absurd c (by decide +kernel)) | (conv => whnf)))
        | fail)
      · have c7 : Int32.ofInt 7 ≤ nI i := by assumption
        rw [e7] at c7
        have h7 := (nI_leI (by omega) (by omega)).mp c7
        rw [show min (i + 1) 7 = min i 7 by omega] at this
        clear hX hG hQ
        simp (disch := omega) only [xl_n, xl_m, nI_dec, nI_sb, xl_0, xl_1, tW_i, t_bn0, t_bn1, Classical.not_not, t_lt, nI_add, nI_1, pk_mul, nI_clamp, t_si, nI_eq, nI_leI, nM_ne, nM_ne, xm_set] at *
        exact this
      · have c7 : ¬ Int32.ofInt 7 ≤ nI i := by assumption
        rw [e7] at c7
        have h7 : ¬ 7 ≤ i := fun z => c7 (nI_le z (by omega))
        have ev : Int64.ofNat 27 * lN (p_code ((p_ls f n b).take (min i 7))) + (nI (d + 96)).toInt64 - Int64.ofNat 97 + Int64.ofNat 1 = lN (p_code ((p_ls f n b).take (min (i + 1) 7))) := by
          rw [show min (i + 1) 7 = i + 1 by omega, show min i 7 = i by omega, p_take_s hLi, p_code_a, nI_l (by omega)]
          generalize p_code ((p_ls f n b).take i) = m
          show lN 27 * lN m + lN (d + 96) - lN 97 + lN 1 = _
          rw [lN_mul, lN_add, lN_sub (by omega), lN_add]
          exact congrArg lN (by omega)
        rw [← ev] at this
        clear hX hG hQ
        simp (disch := omega) only [xl_n, xl_m, nI_dec, nI_sb, xl_0, xl_1, tW_i, t_bn0, t_bn1, Classical.not_not, t_lt, nI_add, nI_1, pk_mul, nI_clamp, t_si, nI_eq, nI_leI, nM_ne, nM_ne, xm_set] at *
        exact this
    · have ei : i = (p_ls f n b).length := by omega
      have hno : t_let (p_at f n (b + i)) = false := by
        have e : b + i = p_le f n b := by omega
        rw [e]
        rcases Nat.lt_or_ge (p_le f n b) n with q | q
        · rw [p_at_t q]
          exact (p_sk_in (q := t_let) (f := f) (n := n) (Nat.le_refl _) hb2).2.2 q
        · rw [p_at_f (by omega)]
          exact t_let_nM
      clear ih
      unfold p_wd at hQ
      refine hG _ _ _ _ _ _ ?_
      (conv => whnf)
      repeat' (first
        | (refine ⟨b + i, congrArg (fun x => [Value.ref 0, Value.int x]) e4, ?_⟩; (conv => whnf))
        | ((with_reducible refine @And.intro (vp_in _ _) _ ?_ ?_); (· (first | with_reducible assumption | ((with_reducible refine t_vin ?_); decide) | ((with_reducible refine vp_in_nI ?_ ?_) <;> first | omega | decide) | (simp (disch := omega) only [xl_n, xl_m, nI_dec, nI_sb, nI_add, pk_mul]; (with_reducible refine vp_in_nI ?_ ?_) <;> first | omega | decide))); (conv => whnf))
        | (refine And.intro (by first | with_reducible assumption | exact (show tL _ = _ from rfl) | decide) ?_; (conv => whnf))
        | ((with_reducible refine @And.intro (_ = _) _ ?_ ?_); (· rfl); (conv => whnf))
        | ((with_reducible refine @And.intro (@LE.le Nat _ _ _) _ ?_ ?_); (· (first | exact Nat.zero_le _ | exact Nat.le_of_ble_eq_true rfl | omega)); (conv => whnf))
        | ((with_reducible refine @And.intro (@LT.lt Nat _ _ _) _ ?_ ?_); (· omega); (conv => whnf))
        | ((with_reducible refine @And.intro (∃ _, _ = _) _ ?_ ?_); (· exact ⟨_, rfl⟩); (conv => whnf))
        | ((with_reducible refine @And.intro (_ ∨ _) _ ?_ ?_); (· (first | exact Or.inl rfl | exact Or.inr rfl | exact t_b01 _ | assumption)); (conv => whnf))
        | ((with_reducible refine @And.intro (¬ (_ = _)) _ ?_ ?_); (· first | assumption | (with_reducible assumption)); (conv => whnf))
        | (refine hX _ _ _ _ _ _ ?_; (conv => whnf); fail_if_success show False)
        | (rw [t_si]; (conv => whnf))
        | (refine ⟨_, rfl, ?_⟩; (conv => whnf))
        | (refine ⟨_, _, rfl, ?_⟩; (conv => whnf))
        | (refine ⟨_, _, _, rfl, ?_⟩; (conv => whnf))
        | (refine ⟨_, _, _, _, rfl, ?_⟩; (conv => whnf))
        | (rw [hno]; (conv => whnf))
        | (refine ⟨_, _, (by with_reducible assumption), ?_⟩; (conv => whnf))
        | (refine ⟨_, (by first | with_reducible assumption | exact rfl), ?_⟩; (conv => whnf))
        | (refine And.intro (fun c => ?_) (fun c => ?_) <;> (first | (exact absurd c (by decide +kernel)) | (conv => whnf)))
        | fail)
      · have c7 : nI i ≤ Int32.ofInt 7 := by assumption
        rw [e7] at c7
        have h7 := (nI_leI (by omega) (by omega)).mp c7
        rw [if_pos (by omega)] at hQ
        rw [show min i 7 = (p_ls f n b).length by omega, List.take_length]
        exact hQ
      · have c7 : ¬ nI i ≤ Int32.ofInt 7 := by assumption
        rw [e7] at c7
        have h7 : ¬ i ≤ 7 := fun z => c7 (nI_le z (by omega))
        rw [if_neg (by omega)] at hQ
        exact hQ
  refine ⟨rfl, ?_⟩
  repeat' (first
    | ((with_reducible refine @And.intro (vp_in _ _) _ ?_ ?_); (· (first | with_reducible assumption | ((with_reducible refine t_vin ?_); decide) | ((with_reducible refine vp_in_nI ?_ ?_) <;> first | omega | decide) | (simp (disch := omega) only [xl_n, xl_m, nI_dec, nI_sb, nI_add, pk_mul]; (with_reducible refine vp_in_nI ?_ ?_) <;> first | omega | decide))); (conv => whnf))
    | (refine And.intro (by first | with_reducible assumption | exact (show tL _ = _ from rfl) | decide) ?_; (conv => whnf))
    | ((with_reducible refine @And.intro (_ = _) _ ?_ ?_); (· rfl); (conv => whnf))
    | ((with_reducible refine @And.intro (@LE.le Nat _ _ _) _ ?_ ?_); (· (first | exact Nat.zero_le _ | exact Nat.le_of_ble_eq_true rfl | omega)); (conv => whnf))
    | ((with_reducible refine @And.intro (@LT.lt Nat _ _ _) _ ?_ ?_); (· omega); (conv => whnf))
    | ((with_reducible refine @And.intro (∃ _, _ = _) _ ?_ ?_); (· exact ⟨_, rfl⟩); (conv => whnf))
    | ((with_reducible refine @And.intro (_ ∨ _) _ ?_ ?_); (· (first | exact Or.inl rfl | exact Or.inr rfl | exact t_b01 _ | assumption)); (conv => whnf))
    | ((with_reducible refine @And.intro (¬ (_ = _)) _ ?_ ?_); (· first | assumption | (with_reducible assumption)); (conv => whnf))
    | (refine hX _ _ _ _ _ _ ?_; (conv => whnf); fail_if_success show False)
    | (rw [t_si]; (conv => whnf))
    | (refine ⟨_, rfl, ?_⟩; (conv => whnf))
    | (refine ⟨_, _, rfl, ?_⟩; (conv => whnf))
    | (refine ⟨_, _, _, rfl, ?_⟩; (conv => whnf))
    | (refine ⟨_, _, _, _, rfl, ?_⟩; (conv => whnf))
    | (refine ⟨_, _, (by with_reducible assumption), ?_⟩; (conv => whnf))
    | (refine ⟨_, (by first | with_reducible assumption | exact rfl), ?_⟩; (conv => whnf))
    | (refine And.intro (fun c => ?_) (fun c => ?_) <;> (first | (exact absurd c (by decide +kernel)) | (conv => whnf)))
    | fail)
  · have := loop 0 (by omega)
    rw [hb] 
    exact this
theorem ct_X11_wordHere {Iv : xI} (hI : xm_good Iv) : xm_Ct Iv yX11_wordHere (ws_ yX11_wordHere cX11_wordHere 4 (some .long)) 3 0 0 S_X11_wordHere := xm_enter (rt := 4) (init := false) (by decide +kernel) rfl (fun h => by cases h) (Or.inr (Or.inr (Or.inr (Or.inr ⟨rfl, rfl⟩)))) (oX11_wordHere hI) body_X11_wordHere
theorem cv_X11_wordHere {Iv : xI} {own : String} {cc : ByteArray} {fr pc idx : Nat} (hI : xm_good Iv) (hdg : decode cc pc = .ok (.invokevirtual idx, 3)) (hl : xm_ml own idx yX11_wordHere) (hfr : 3 < fr) : xm_CallOK Iv own cc fr pc (pc + 3) 1 0 0 (xm_this 8 S_X11_wordHere) := xm_callV 8 hI (ct_X11_wordHere hI) hdg hl q2167 qs60 q145 q2168 rfl rfl (by decide +kernel) hfr (by decide)
