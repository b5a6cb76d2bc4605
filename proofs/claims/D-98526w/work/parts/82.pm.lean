/-! ===== the reference: what was read stands ===== -/
set_option maxRecDepth 100000
theorem t_z.x {D : Nat → Prop} {I T M : tI} {S S' : Nat → Nat → Prop} {b k : Nat} {v : Int32} (h : t_z D I T S M) (hD : D b) (hs : ∀ b' k', S' b' k' → S b' k' ∧ ¬ (b' = b ∧ k' = k)) : t_z D I T S' (xm_u2 M b k v) := by
  refine ⟨fun b' h' => funext fun j => ?_, fun b' k' h' => ?_⟩
  · rw [xm_u2_ne (fun e => h' (by rw [e]; exact hD))]
    exact congrFun (h.1 b' h') j
  · obtain ⟨h1, h2⟩ := hs b' k' h'
    rw [show xm_u2 M b k v b' k' = M b' k' from if_neg h2]
    exact h.2 b' k' h1
theorem t_z.t {D D' : Nat → Prop} {I T T' M J : tI} {S S' S2 : Nat → Nat → Prop} (hM : t_z D I T S M) (hJ : t_z D' M T' S' J) (hD : ∀ b, D' b → D b) (hS : ∀ b k, S2 b k → (S b k ∧ ¬ D' b) ∨ (S' b k ∧ T' b k = T b k)) : t_z D I T S2 J := by
  refine ⟨fun b h => (hJ.1 b (fun q => h (hD b q))).trans (hM.1 b h), fun b k h => ?_⟩
  rcases hS b k h with ⟨h1, h2⟩ | ⟨h1, h2⟩
  · rw [hJ.1 b h2]
    exact hM.2 b k h1
  · exact (hJ.2 b k h1).trans h2
theorem t_in_n {k a b : Nat} (h1 : a ≤ k) (h2 : k ≤ b) (hb : b < 2 ^ 31) : t_in (nI k) (nI a) (nI b) = true := by
  unfold t_in
  rw [decide_eq_true (nI_le h1 (by omega)), decide_eq_true (nI_le h2 hb)]
  rfl
theorem t_in_f {k a b : Nat} (h : ¬ (a ≤ k ∧ k ≤ b)) (hk : k < 2 ^ 31) (ha : a < 2 ^ 31) (hb : b < 2 ^ 31) : t_in (nI k) (nI a) (nI b) = false := by
  unfold t_in
  by_cases q : a ≤ k
  · rw [decide_eq_false (fun z => h ⟨q, (nI_leI hk hb).mp z⟩), Bool.and_false]
  · rw [decide_eq_false (fun z => q ((nI_leI ha hk).mp z)), Bool.false_and]
def t_beg (F : tI) (k : Nat) : Int32 :=
  if k < 1 then nI 0 else if k < 9 then F 13 (k - 1) else if k < 17 then (if k - 9 < f_p F then F (120 + (k - 9)) 2 else nI 0) else if k < 25 then nM else
  if k < 97 then (if t_has (F 13 ((k - 25) % 8)) ((k - 25) / 8) = true then nI 0 else nM) else if k < 106 then nM else nI 0
def t_std (F : tI) : tI := fun b k => if b = 12 then F 11 k else if b = 14 then F 13 k else if b = 16 then F 15 k else if b = 18 then F 17 k else if 110 ≤ b then F (b - 10) k else t_beg F k
def t_stD (b : Nat) : Prop := b = 12 ∨ b = 14 ∨ b = 16 ∨ b = 18 ∨ b = 36 ∨ b = 37 ∨ b = 38 ∨ (110 ≤ b ∧ b < 119) ∨ (130 ≤ b ∧ b < 138) ∨ (150 ≤ b ∧ b < 156) ∨ (170 ≤ b ∧ b < 179)
def t_stS (F : tI) (b k : Nat) : Prop := (b = 12 ∧ k < 4) ∨ (110 ≤ b ∧ b < 110 + f_h F ∧ k < 3) ∨ (130 ≤ b ∧ b < 130 + f_p F ∧ k < 3) ∨ (150 ≤ b ∧ b < 150 + f_a F ∧ k < 2 + f_m F (b - 150)) ∨ (170 ≤ b ∧ b < 179 ∧ k < 9)
def t_st18 (F : tI) (h b k : Nat) : Prop := t_stS F b k ∨ (b = 18 ∧ k < h)
def t_a38 (i b k : Nat) : Prop := b = 38 ∧ k < i ∧ (k = 0 ∨ (17 ≤ k ∧ k < 25) ∨ 97 ≤ k)
def t_st38 (F : tI) (i b k : Nat) : Prop := t_st18 F 9 b k ∨ t_a38 i b k
def t_a14 (p b k : Nat) : Prop := ((b = 14 ∨ b = 16) ∧ k < p) ∨ (b = 38 ∧ ((1 ≤ k ∧ k < 1 + p) ∨ (9 ≤ k ∧ k < 9 + p) ∨ (25 ≤ k ∧ k < 97 ∧ (k - 25) % 8 < p)))
def t_st14 (F : tI) (p b k : Nat) : Prop := t_st38 F 107 b k ∨ t_a14 p b k
theorem t_z.wp {D : Nat → Prop} {I T M : tI} {P A A' : Nat → Nat → Prop} {b k : Nat} {v : Int32} (h : t_z D I T (fun b k => P b k ∨ A b k) M) (hD : D b) (hv : v = T b k) (hs : ∀ b' k', A' b' k' → A b' k' ∨ (b' = b ∧ k' = k)) : t_z D I T (fun b k => P b k ∨ A' b k) (xm_u2 M b k v) := h.w hD hv fun b' k' q => by
  rcases q with q | q
  · exact Or.inl (Or.inl q)
  · rcases hs b' k' q with q | q
    · exact Or.inl (Or.inr q)
    · exact Or.inr q
theorem t_z.sp {D : Nat → Prop} {I T M : tI} {P A A' : Nat → Nat → Prop} (h : t_z D I T (fun b k => P b k ∨ A b k) M) (hs : ∀ b' k', A' b' k' → A b' k') : t_z D I T (fun b k => P b k ∨ A' b k) M := h.s fun b k q => q.imp id (hs b k)
theorem t_z.xp {D : Nat → Prop} {I T M : tI} {P A A' : Nat → Nat → Prop} {b k : Nat} {v : Int32} (h : t_z D I T (fun b k => P b k ∨ A b k) M) (hD : D b) (hP : ∀ b' k', P b' k' → ¬ (b' = b ∧ k' = k)) (hs : ∀ b' k', A' b' k' → A b' k' ∧ ¬ (b' = b ∧ k' = k)) : t_z D I T (fun b k => P b k ∨ A' b k) (xm_u2 M b k v) := h.x hD fun b' k' q => by
  rcases q with q | q
  · exact ⟨Or.inl q, hP b' k' q⟩
  · exact ⟨Or.inr (hs b' k' q).1, (hs b' k' q).2⟩
theorem f_in_a {F : tI} {a k : Nat} (ha : a < f_a F) (hk : k < 2 + f_m F a) : f_in F (140 + a) k := Or.inr (Or.inr (Or.inr (Or.inr (Or.inr (Or.inr (Or.inl ⟨a, rfl, ha, hk⟩))))))
theorem f_in_12 {F : tI} {k : Nat} (hk : k < 4) : f_in F 11 k := Or.inr (Or.inl ⟨rfl, hk⟩)
theorem t_std_r {F : tI} {b k : Nat} (h : 110 ≤ b) : t_std F b k = F (b - 10) k := by
  unfold t_std
  rw [if_neg (by omega), if_neg (by omega), if_neg (by omega), if_neg (by omega), if_pos h]
theorem t_rea.o {I F M : tI} {T : tI} {S : Nat → Nat → Prop} {b k : Nat} (h : t_rea I F) (hM : t_z t_stD I T S M) (hb : ¬ t_stD b) (hf : f_in F b k) : M b k = F b k := by
  rw [hM.1 b hb]
  exact h b k hf
abbrev bX11_stands_0 : List xE := [(.iconst 0, 1, 0, 0, 0), (.istore_n 1, 2, 0, 0, 0)]
abbrev bX11_stands_2 : List xE := [(.iload_n 1, 3, 0, 0, 0), (.iconst 4, 4, 0, 0, 0), (.if_icmp .ge 21, 7, 0, 25, 0), (.aload_n 0, 8, 0, 0, 0), (.getfield 23, 11, 8, 12, 1), (.iload_n 1, 12, 0, 0, 0), (.aload_n 0, 13, 0, 0, 0), (.getfield 20, 16, 8, 11, 1), (.iload_n 1, 17, 0, 0, 0), (.iaload, 18, 0, 0, 0), (.iastore, 19, 0, 0, 0), (.iinc 1 1, 22, 0, 0, 0), (.goto (-20), 25, 0, 2, 0)]
abbrev bX11_stands_25 : List xE := [(.aload_n 0, 26, 0, 0, 0), (.getfield 46, 29, 8, 19, 1), (.aload_n 0, 30, 0, 0, 0), (.getfield 49, 33, 8, 20, 1), (.aload_n 0, 34, 0, 0, 0), (.getfield 23, 37, 8, 12, 1), (.iconst 0, 38, 0, 0, 0), (.iaload, 39, 0, 0, 0), (.invokestatic 262, 42, 0, 0, 9), (.aload_n 0, 43, 0, 0, 0), (.getfield 52, 46, 8, 21, 1), (.aload_n 0, 47, 0, 0, 0), (.getfield 55, 50, 8, 22, 1), (.aload_n 0, 51, 0, 0, 0), (.getfield 23, 54, 8, 12, 1), (.iconst 1, 55, 0, 0, 0), (.iaload, 56, 0, 0, 0), (.invokestatic 262, 59, 0, 0, 9), (.aload_n 0, 60, 0, 0, 0), (.getfield 58, 63, 8, 23, 1), (.aload_n 0, 64, 0, 0, 0), (.getfield 61, 67, 8, 24, 1), (.aload_n 0, 68, 0, 0, 0), (.getfield 23, 71, 8, 12, 1), (.iconst 2, 72, 0, 0, 0), (.iaload, 73, 0, 0, 0), (.invokestatic 262, 76, 0, 0, 9), (.aload_n 0, 77, 0, 0, 0), (.getfield 64, 80, 8, 25, 1), (.aload_n 0, 81, 0, 0, 0), (.getfield 67, 84, 8, 26, 1), (.bipush 9, 86, 0, 0, 0), (.invokestatic 262, 89, 0, 0, 9), (.iconst 0, 90, 0, 0, 0), (.istore_n 1, 91, 0, 0, 0)]
abbrev bX11_stands_91 : List xE := [(.iload_n 1, 92, 0, 0, 0), (.bipush 9, 94, 0, 0, 0), (.if_icmp .ge 21, 97, 0, 115, 0), (.aload_n 0, 98, 0, 0, 0), (.getfield 41, 101, 8, 18, 1), (.iload_n 1, 102, 0, 0, 0), (.aload_n 0, 103, 0, 0, 0), (.getfield 38, 106, 8, 17, 1), (.iload_n 1, 107, 0, 0, 0), (.iaload, 108, 0, 0, 0), (.iastore, 109, 0, 0, 0), (.iinc 1 1, 112, 0, 0, 0), (.goto (-21), 115, 0, 91, 0)]
abbrev bX11_stands_115 : List xE := [(.iconst 0, 116, 0, 0, 0), (.istore_n 1, 117, 0, 0, 0)]
abbrev bX11_stands_117 : List xE := [(.iload_n 1, 118, 0, 0, 0), (.bipush 107, 120, 0, 0, 0), (.if_icmp .ge 31, 123, 0, 151, 0), (.aload_n 0, 124, 0, 0, 0), (.getfield 97, 127, 8, 38, 1), (.iload_n 1, 128, 0, 0, 0), (.iload_n 1, 129, 0, 0, 0), (.bipush 17, 131, 0, 0, 0), (.bipush 105, 133, 0, 0, 0), (.invokestatic 168, 136, 0, 1, 9), (.ifCond .eq 7, 139, 0, 143, 0), (.iconst (-1), 140, 0, 0, 0), (.goto 4, 143, 0, 144, 0)]
abbrev bX11_stands_143 : List xE := [(.iconst 0, 144, 0, 0, 0)]
abbrev bX11_stands_144 : List xE := [(.iastore, 145, 0, 0, 0), (.iinc 1 1, 148, 0, 0, 0), (.goto (-31), 151, 0, 117, 0)]
abbrev bX11_stands_151 : List xE := [(.iconst 0, 152, 0, 0, 0), (.istore_n 1, 153, 0, 0, 0)]
abbrev bX11_stands_153 : List xE := [(.iload_n 1, 154, 0, 0, 0), (.bipush 8, 156, 0, 0, 0), (.if_icmp .ge 124, 159, 0, 280, 0), (.aload_n 0, 160, 0, 0, 0), (.getfield 29, 163, 8, 14, 1), (.iload_n 1, 164, 0, 0, 0), (.aload_n 0, 165, 0, 0, 0), (.getfield 26, 168, 8, 13, 1), (.iload_n 1, 169, 0, 0, 0), (.iaload, 170, 0, 0, 0), (.iastore, 171, 0, 0, 0), (.aload_n 0, 172, 0, 0, 0), (.getfield 35, 175, 8, 16, 1), (.iload_n 1, 176, 0, 0, 0), (.aload_n 0, 177, 0, 0, 0), (.getfield 32, 180, 8, 15, 1), (.iload_n 1, 181, 0, 0, 0), (.iaload, 182, 0, 0, 0), (.iastore, 183, 0, 0, 0), (.aload_n 0, 184, 0, 0, 0), (.getfield 97, 187, 8, 38, 1), (.iconst 1, 188, 0, 0, 0), (.iload_n 1, 189, 0, 0, 0), (.iadd, 190, 0, 0, 0), (.aload_n 0, 191, 0, 0, 0), (.getfield 29, 194, 8, 14, 1), (.iload_n 1, 195, 0, 0, 0), (.iaload, 196, 0, 0, 0), (.iastore, 197, 0, 0, 0), (.aload_n 0, 198, 0, 0, 0), (.getfield 97, 201, 8, 38, 1), (.bipush 9, 203, 0, 0, 0), (.iload_n 1, 204, 0, 0, 0), (.iadd, 205, 0, 0, 0), (.iload_n 1, 206, 0, 0, 0), (.aload_n 0, 207, 0, 0, 0), (.getfield 23, 210, 8, 12, 1), (.iconst 1, 211, 0, 0, 0), (.iaload, 212, 0, 0, 0), (.if_icmp .ge 14, 215, 0, 226, 0), (.aload_n 0, 216, 0, 0, 0), (.getfield 55, 219, 8, 22, 1), (.iload_n 1, 220, 0, 0, 0), (.aaload, 221, 0, 0, 0), (.iconst 2, 222, 0, 0, 0), (.iaload, 223, 0, 0, 0), (.goto 4, 226, 0, 227, 0)]
abbrev bX11_stands_226 : List xE := [(.iconst 0, 227, 0, 0, 0)]
abbrev bX11_stands_227 : List xE := [(.iastore, 228, 0, 0, 0), (.iconst 0, 229, 0, 0, 0), (.istore_n 2, 230, 0, 0, 0)]
abbrev bX11_stands_230 : List xE := [(.iload_n 2, 231, 0, 0, 0), (.bipush 9, 233, 0, 0, 0), (.if_icmp .ge 41, 236, 0, 274, 0), (.aload_n 0, 237, 0, 0, 0), (.getfield 97, 240, 8, 38, 1), (.bipush 25, 242, 0, 0, 0), (.bipush 8, 244, 0, 0, 0), (.iload_n 2, 245, 0, 0, 0), (.imul, 246, 0, 0, 0), (.iadd, 247, 0, 0, 0), (.iload_n 1, 248, 0, 0, 0), (.iadd, 249, 0, 0, 0), (.aload_n 0, 250, 0, 0, 0), (.getfield 29, 253, 8, 14, 1), (.iload_n 1, 254, 0, 0, 0), (.iaload, 255, 0, 0, 0), (.iload_n 2, 256, 0, 0, 0), (.invokestatic 242, 259, 0, 2, 9), (.ifCond .eq 7, 262, 0, 266, 0), (.iconst 0, 263, 0, 0, 0), (.goto 4, 266, 0, 267, 0)]
abbrev bX11_stands_266 : List xE := [(.iconst (-1), 267, 0, 0, 0)]
abbrev bX11_stands_267 : List xE := [(.iastore, 268, 0, 0, 0), (.iinc 2 1, 271, 0, 0, 0), (.goto (-41), 274, 0, 230, 0)]
abbrev bX11_stands_274 : List xE := [(.iinc 1 1, 277, 0, 0, 0), (.goto (-124), 280, 0, 153, 0)]
abbrev bX11_stands_280 : List xE := [(.aload_n 0, 281, 0, 0, 0), (.getfield 97, 284, 8, 38, 1), (.aload_n 0, 285, 0, 0, 0), (.getfield 91, 288, 8, 36, 1), (.invokestatic 266, 291, 0, 3, 9), (.aload_n 0, 292, 0, 0, 0), (.iconst 0, 293, 0, 0, 0), (.putfield 270, 296, 8, 27, 0), (.aload_n 0, 297, 0, 0, 0), (.iconst 0, 298, 0, 0, 0), (.putfield 273, 301, 8, 41, 0), (.aload_n 0, 302, 0, 0, 0), (.iconst 0, 303, 0, 0, 0), (.putfield 276, 306, 8, 43, 0), (.aload_n 0, 307, 0, 0, 0), (.invokevirtual 279, 310, 0, 4, 9), (.return_, 311, 0, 0, 0)]
abbrev kX11_stands : List (Nat × List xE) := [(0, bX11_stands_0), (2, bX11_stands_2), (25, bX11_stands_25), (91, bX11_stands_91), (115, bX11_stands_115), (117, bX11_stands_117), (143, bX11_stands_143), (144, bX11_stands_144), (151, bX11_stands_151), (153, bX11_stands_153), (226, bX11_stands_226), (227, bX11_stands_227), (230, bX11_stands_230), (266, bX11_stands_266), (267, bX11_stands_267), (274, bX11_stands_274), (280, bX11_stands_280)]
abbrev lX11_stands : List (Nat × Nat × Nat × xS) := [(3, 0, 0, S_X11_lays), (3, 0, 0, S_X11_in), (2, 0, 0, S_X11_has), (2, 0, 0, S_X11_copies), (1, 0, 0, xm_this 8 S_X11_settles)]
theorem oX11_stands_0 {Iv : xI} (hI : xm_good Iv)  : xm_okb Iv RX11 cX11_stands false 3 lX11_stands bX11_stands_0 0 := xo_0 dX11_stands_0 rfl trivial (xo_0 dX11_stands_1 rfl trivial (xo_n))
theorem oX11_stands_2 {Iv : xI} (hI : xm_good Iv)  : xm_okb Iv RX11 cX11_stands false 3 lX11_stands bX11_stands_2 2 := xo_0 dX11_stands_2 rfl trivial (xo_0 dX11_stands_3 rfl trivial (xo_0 dX11_stands_4 rfl rfl (xo_0 dX11_stands_7 rfl trivial (xo_1 dX11_stands_8 rfl (xm_fg_of (Or.inl q1967) (by decide) rfl (by decide) rfl rfl (Or.inl rfl) rfl) (xo_0 dX11_stands_11 rfl trivial (xo_0 dX11_stands_12 rfl trivial (xo_1 dX11_stands_13 rfl (xm_fg_of (Or.inl q1966) (by decide) rfl (by decide) rfl rfl (Or.inl rfl) rfl) (xo_0 dX11_stands_16 rfl trivial (xo_0 dX11_stands_17 rfl trivial (xo_0 dX11_stands_18 rfl trivial (xo_0 dX11_stands_19 rfl trivial (xo_0 dX11_stands_22 rfl rfl (xo_n)))))))))))))
theorem oX11_stands_25 {Iv : xI} (hI : xm_good Iv)  : xm_okb Iv RX11 cX11_stands false 3 lX11_stands bX11_stands_25 25 := xo_0 dX11_stands_25 rfl trivial (xo_1 dX11_stands_26 rfl (xm_fg_of (Or.inl q1974) (by decide) rfl (by decide) rfl rfl (Or.inl rfl) rfl) (xo_0 dX11_stands_29 rfl trivial (xo_1 dX11_stands_30 rfl (xm_fg_of (Or.inl q1975) (by decide) rfl (by decide) rfl rfl (Or.inl rfl) rfl) (xo_0 dX11_stands_33 rfl trivial (xo_1 dX11_stands_34 rfl (xm_fg_of (Or.inl q1967) (by decide) rfl (by decide) rfl rfl (Or.inl rfl) rfl) (xo_0 dX11_stands_37 rfl trivial (xo_0 dX11_stands_38 rfl trivial (xo_c rfl (cv_X11_lays hI dX11_stands_39 (Or.inl q1939) (by decide)) (xo_0 dX11_stands_42 rfl trivial (xo_1 dX11_stands_43 rfl (xm_fg_of (Or.inl q1976) (by decide) rfl (by decide) rfl rfl (Or.inl rfl) rfl) (xo_0 dX11_stands_46 rfl trivial (xo_1 dX11_stands_47 rfl (xm_fg_of (Or.inl q1977) (by decide) rfl (by decide) rfl rfl (Or.inl rfl) rfl) (xo_0 dX11_stands_50 rfl trivial (xo_1 dX11_stands_51 rfl (xm_fg_of (Or.inl q1967) (by decide) rfl (by decide) rfl rfl (Or.inl rfl) rfl) (xo_0 dX11_stands_54 rfl trivial (xo_0 dX11_stands_55 rfl trivial (xo_c rfl (cv_X11_lays hI dX11_stands_56 (Or.inl q1939) (by decide)) (xo_0 dX11_stands_59 rfl trivial (xo_1 dX11_stands_60 rfl (xm_fg_of (Or.inl q1978) (by decide) rfl (by decide) rfl rfl (Or.inl rfl) rfl) (xo_0 dX11_stands_63 rfl trivial (xo_1 dX11_stands_64 rfl (xm_fg_of (Or.inl q1979) (by decide) rfl (by decide) rfl rfl (Or.inl rfl) rfl) (xo_0 dX11_stands_67 rfl trivial (xo_1 dX11_stands_68 rfl (xm_fg_of (Or.inl q1967) (by decide) rfl (by decide) rfl rfl (Or.inl rfl) rfl) (xo_0 dX11_stands_71 rfl trivial (xo_0 dX11_stands_72 rfl trivial (xo_c rfl (cv_X11_lays hI dX11_stands_73 (Or.inl q1939) (by decide)) (xo_0 dX11_stands_76 rfl trivial (xo_1 dX11_stands_77 rfl (xm_fg_of (Or.inl q1980) (by decide) rfl (by decide) rfl rfl (Or.inl rfl) rfl) (xo_0 dX11_stands_80 rfl trivial (xo_1 dX11_stands_81 rfl (xm_fg_of (Or.inl q1981) (by decide) rfl (by decide) rfl rfl (Or.inl rfl) rfl) (xo_0 dX11_stands_84 rfl (xo_bipush (by decide +kernel)) (xo_c rfl (cv_X11_lays hI dX11_stands_86 (Or.inl q1939) (by decide)) (xo_0 dX11_stands_89 rfl trivial (xo_0 dX11_stands_90 rfl trivial (xo_n)))))))))))))))))))))))))))))))))))
theorem oX11_stands_91 {Iv : xI} (hI : xm_good Iv)  : xm_okb Iv RX11 cX11_stands false 3 lX11_stands bX11_stands_91 91 := xo_0 dX11_stands_91 rfl trivial (xo_0 dX11_stands_92 rfl (xo_bipush (by decide +kernel)) (xo_0 dX11_stands_94 rfl rfl (xo_0 dX11_stands_97 rfl trivial (xo_1 dX11_stands_98 rfl (xm_fg_of (Or.inl q1973) (by decide) rfl (by decide) rfl rfl (Or.inl rfl) rfl) (xo_0 dX11_stands_101 rfl trivial (xo_0 dX11_stands_102 rfl trivial (xo_1 dX11_stands_103 rfl (xm_fg_of (Or.inl q1972) (by decide) rfl (by decide) rfl rfl (Or.inl rfl) rfl) (xo_0 dX11_stands_106 rfl trivial (xo_0 dX11_stands_107 rfl trivial (xo_0 dX11_stands_108 rfl trivial (xo_0 dX11_stands_109 rfl trivial (xo_0 dX11_stands_112 rfl rfl (xo_n)))))))))))))
theorem oX11_stands_115 {Iv : xI} (hI : xm_good Iv)  : xm_okb Iv RX11 cX11_stands false 3 lX11_stands bX11_stands_115 115 := xo_0 dX11_stands_115 rfl trivial (xo_0 dX11_stands_116 rfl trivial (xo_n))
theorem oX11_stands_117 {Iv : xI} (hI : xm_good Iv)  : xm_okb Iv RX11 cX11_stands false 3 lX11_stands bX11_stands_117 117 := xo_0 dX11_stands_117 rfl trivial (xo_0 dX11_stands_118 rfl (xo_bipush (by decide +kernel)) (xo_0 dX11_stands_120 rfl rfl (xo_0 dX11_stands_123 rfl trivial (xo_1 dX11_stands_124 rfl (xm_fg_of (Or.inl q1993) (by decide) rfl (by decide) rfl rfl (Or.inl rfl) rfl) (xo_0 dX11_stands_127 rfl trivial (xo_0 dX11_stands_128 rfl trivial (xo_0 dX11_stands_129 rfl (xo_bipush (by decide +kernel)) (xo_0 dX11_stands_131 rfl (xo_bipush (by decide +kernel)) (xo_c rfl (cv_X11_in hI dX11_stands_133 (Or.inl q1942) (by decide)) (xo_0 dX11_stands_136 rfl rfl (xo_0 dX11_stands_139 rfl trivial (xo_0 dX11_stands_140 rfl rfl (xo_n)))))))))))))
theorem oX11_stands_143 {Iv : xI} (hI : xm_good Iv)  : xm_okb Iv RX11 cX11_stands false 3 lX11_stands bX11_stands_143 143 := xo_0 dX11_stands_143 rfl trivial (xo_n)
theorem oX11_stands_144 {Iv : xI} (hI : xm_good Iv)  : xm_okb Iv RX11 cX11_stands false 3 lX11_stands bX11_stands_144 144 := xo_0 dX11_stands_144 rfl trivial (xo_0 dX11_stands_145 rfl trivial (xo_0 dX11_stands_148 rfl rfl (xo_n)))
theorem oX11_stands_151 {Iv : xI} (hI : xm_good Iv)  : xm_okb Iv RX11 cX11_stands false 3 lX11_stands bX11_stands_151 151 := xo_0 dX11_stands_151 rfl trivial (xo_0 dX11_stands_152 rfl trivial (xo_n))
theorem oX11_stands_153 {Iv : xI} (hI : xm_good Iv)  : xm_okb Iv RX11 cX11_stands false 3 lX11_stands bX11_stands_153 153 := xo_0 dX11_stands_153 rfl trivial (xo_0 dX11_stands_154 rfl (xo_bipush (by decide +kernel)) (xo_0 dX11_stands_156 rfl rfl (xo_0 dX11_stands_159 rfl trivial (xo_1 dX11_stands_160 rfl (xm_fg_of (Or.inl q1969) (by decide) rfl (by decide) rfl rfl (Or.inl rfl) rfl) (xo_0 dX11_stands_163 rfl trivial (xo_0 dX11_stands_164 rfl trivial (xo_1 dX11_stands_165 rfl (xm_fg_of (Or.inl q1968) (by decide) rfl (by decide) rfl rfl (Or.inl rfl) rfl) (xo_0 dX11_stands_168 rfl trivial (xo_0 dX11_stands_169 rfl trivial (xo_0 dX11_stands_170 rfl trivial (xo_0 dX11_stands_171 rfl trivial (xo_1 dX11_stands_172 rfl (xm_fg_of (Or.inl q1971) (by decide) rfl (by decide) rfl rfl (Or.inl rfl) rfl) (xo_0 dX11_stands_175 rfl trivial (xo_0 dX11_stands_176 rfl trivial (xo_1 dX11_stands_177 rfl (xm_fg_of (Or.inl q1970) (by decide) rfl (by decide) rfl rfl (Or.inl rfl) rfl) (xo_0 dX11_stands_180 rfl trivial (xo_0 dX11_stands_181 rfl trivial (xo_0 dX11_stands_182 rfl trivial (xo_0 dX11_stands_183 rfl trivial (xo_1 dX11_stands_184 rfl (xm_fg_of (Or.inl q1993) (by decide) rfl (by decide) rfl rfl (Or.inl rfl) rfl) (xo_0 dX11_stands_187 rfl trivial (xo_0 dX11_stands_188 rfl trivial (xo_0 dX11_stands_189 rfl trivial (xo_0 dX11_stands_190 rfl trivial (xo_1 dX11_stands_191 rfl (xm_fg_of (Or.inl q1969) (by decide) rfl (by decide) rfl rfl (Or.inl rfl) rfl) (xo_0 dX11_stands_194 rfl trivial (xo_0 dX11_stands_195 rfl trivial (xo_0 dX11_stands_196 rfl trivial (xo_0 dX11_stands_197 rfl trivial (xo_1 dX11_stands_198 rfl (xm_fg_of (Or.inl q1993) (by decide) rfl (by decide) rfl rfl (Or.inl rfl) rfl) (xo_0 dX11_stands_201 rfl (xo_bipush (by decide +kernel)) (xo_0 dX11_stands_203 rfl trivial (xo_0 dX11_stands_204 rfl trivial (xo_0 dX11_stands_205 rfl trivial (xo_0 dX11_stands_206 rfl trivial (xo_1 dX11_stands_207 rfl (xm_fg_of (Or.inl q1967) (by decide) rfl (by decide) rfl rfl (Or.inl rfl) rfl) (xo_0 dX11_stands_210 rfl trivial (xo_0 dX11_stands_211 rfl trivial (xo_0 dX11_stands_212 rfl rfl (xo_0 dX11_stands_215 rfl trivial (xo_1 dX11_stands_216 rfl (xm_fg_of (Or.inl q1977) (by decide) rfl (by decide) rfl rfl (Or.inl rfl) rfl) (xo_0 dX11_stands_219 rfl trivial (xo_0 dX11_stands_220 rfl trivial (xo_0 dX11_stands_221 rfl trivial (xo_0 dX11_stands_222 rfl trivial (xo_0 dX11_stands_223 rfl rfl (xo_n)))))))))))))))))))))))))))))))))))))))))))))))
theorem oX11_stands_226 {Iv : xI} (hI : xm_good Iv)  : xm_okb Iv RX11 cX11_stands false 3 lX11_stands bX11_stands_226 226 := xo_0 dX11_stands_226 rfl trivial (xo_n)
theorem oX11_stands_227 {Iv : xI} (hI : xm_good Iv)  : xm_okb Iv RX11 cX11_stands false 3 lX11_stands bX11_stands_227 227 := xo_0 dX11_stands_227 rfl trivial (xo_0 dX11_stands_228 rfl trivial (xo_0 dX11_stands_229 rfl trivial (xo_n)))
theorem oX11_stands_230 {Iv : xI} (hI : xm_good Iv)  : xm_okb Iv RX11 cX11_stands false 3 lX11_stands bX11_stands_230 230 := xo_0 dX11_stands_230 rfl trivial (xo_0 dX11_stands_231 rfl (xo_bipush (by decide +kernel)) (xo_0 dX11_stands_233 rfl rfl (xo_0 dX11_stands_236 rfl trivial (xo_1 dX11_stands_237 rfl (xm_fg_of (Or.inl q1993) (by decide) rfl (by decide) rfl rfl (Or.inl rfl) rfl) (xo_0 dX11_stands_240 rfl (xo_bipush (by decide +kernel)) (xo_0 dX11_stands_242 rfl (xo_bipush (by decide +kernel)) (xo_0 dX11_stands_244 rfl trivial (xo_0 dX11_stands_245 rfl trivial (xo_0 dX11_stands_246 rfl trivial (xo_0 dX11_stands_247 rfl trivial (xo_0 dX11_stands_248 rfl trivial (xo_0 dX11_stands_249 rfl trivial (xo_1 dX11_stands_250 rfl (xm_fg_of (Or.inl q1969) (by decide) rfl (by decide) rfl rfl (Or.inl rfl) rfl) (xo_0 dX11_stands_253 rfl trivial (xo_0 dX11_stands_254 rfl trivial (xo_0 dX11_stands_255 rfl trivial (xo_c rfl (cv_X11_has hI dX11_stands_256 (Or.inl q1945) (by decide)) (xo_0 dX11_stands_259 rfl rfl (xo_0 dX11_stands_262 rfl trivial (xo_0 dX11_stands_263 rfl rfl (xo_n)))))))))))))))))))))
theorem oX11_stands_266 {Iv : xI} (hI : xm_good Iv)  : xm_okb Iv RX11 cX11_stands false 3 lX11_stands bX11_stands_266 266 := xo_0 dX11_stands_266 rfl trivial (xo_n)
theorem oX11_stands_267 {Iv : xI} (hI : xm_good Iv)  : xm_okb Iv RX11 cX11_stands false 3 lX11_stands bX11_stands_267 267 := xo_0 dX11_stands_267 rfl trivial (xo_0 dX11_stands_268 rfl trivial (xo_0 dX11_stands_271 rfl rfl (xo_n)))
theorem oX11_stands_274 {Iv : xI} (hI : xm_good Iv)  : xm_okb Iv RX11 cX11_stands false 3 lX11_stands bX11_stands_274 274 := xo_0 dX11_stands_274 rfl trivial (xo_0 dX11_stands_277 rfl rfl (xo_n))
theorem oX11_stands_280 {Iv : xI} (hI : xm_good Iv)  : xm_okb Iv RX11 cX11_stands false 3 lX11_stands bX11_stands_280 280 := xo_0 dX11_stands_280 rfl trivial (xo_1 dX11_stands_281 rfl (xm_fg_of (Or.inl q1993) (by decide) rfl (by decide) rfl rfl (Or.inl rfl) rfl) (xo_0 dX11_stands_284 rfl trivial (xo_1 dX11_stands_285 rfl (xm_fg_of (Or.inl q1991) (by decide) rfl (by decide) rfl rfl (Or.inl rfl) rfl) (xo_c rfl (cv_X11_copies hI dX11_stands_288 (Or.inl q1948) (by decide)) (xo_0 dX11_stands_291 rfl trivial (xo_0 dX11_stands_292 rfl trivial (xo_0 dX11_stands_293 rfl (xm_fp_of (xm_fg_of (Or.inl q1982) (by decide) rfl (by decide) rfl rfl (Or.inl rfl) rfl) (by decide) rfl (Or.inl ⟨rfl, rfl⟩) rfl) (xo_0 dX11_stands_296 rfl trivial (xo_0 dX11_stands_297 rfl trivial (xo_0 dX11_stands_298 rfl (xm_fp_of (xm_fg_of (Or.inl q1996) (by decide) rfl (by decide) rfl rfl (Or.inl rfl) rfl) (by decide) rfl (Or.inl ⟨rfl, rfl⟩) rfl) (xo_0 dX11_stands_301 rfl trivial (xo_0 dX11_stands_302 rfl trivial (xo_0 dX11_stands_303 rfl (xm_fp_of (xm_fg_of (Or.inl q1998) (by decide) rfl (by decide) rfl rfl (Or.inl rfl) rfl) (by decide) rfl (Or.inl ⟨rfl, rfl⟩) rfl) (xo_0 dX11_stands_306 rfl trivial (xo_c rfl (cv_X11_settles hI dX11_stands_307 (Or.inl q1951) (by decide)) (xo_0 dX11_stands_310 rfl trivial (xo_n)))))))))))))))))
theorem oX11_stands {Iv : xI} (hI : xm_good Iv)  : ∀ q ∈ kX11_stands, xm_okb Iv RX11 cX11_stands false 3 lX11_stands q.2 q.1 := by
  intro q hq
  simp only [List.mem_cons, List.not_mem_nil, or_false] at hq
  rcases hq with rfl | rfl | rfl | rfl | rfl | rfl | rfl | rfl | rfl | rfl | rfl | rfl | rfl | rfl | rfl | rfl | rfl
  · exact oX11_stands_0 hI  
  · exact oX11_stands_2 hI  
  · exact oX11_stands_25 hI  
  · exact oX11_stands_91 hI  
  · exact oX11_stands_115 hI  
  · exact oX11_stands_117 hI  
  · exact oX11_stands_143 hI  
  · exact oX11_stands_144 hI  
  · exact oX11_stands_151 hI  
  · exact oX11_stands_153 hI  
  · exact oX11_stands_226 hI  
  · exact oX11_stands_227 hI  
  · exact oX11_stands_230 hI  
  · exact oX11_stands_266 hI  
  · exact oX11_stands_267 hI  
  · exact oX11_stands_274 hI  
  · exact oX11_stands_280 hI  
def S_X11_stands : xS := tU fun as I Q => as = [.ref 0] ∧ ∃ F, t_fok F ∧ (∀ a, a < f_a F → f_m F a ≤ 6) ∧ t_rea I F ∧ ∀ J, (∀ b, b ≠ 0 → ¬ t_stD b → J b = I b) → (∀ k, k ≠ 27 → k ≠ 41 → k ≠ 42 → k ≠ 43 → J 0 k = I 0 k) → J 0 27 = nI 0 → J 0 41 = nI 0 → J 0 42 = nI 0 → J 0 43 = nI 0 → (∀ b k, (t_st14 F 8 b k ∨ ((b = 36 ∨ b = 37 ∨ b = 38) ∧ k < 107)) → J b k = t_std F b k) → Q none J
theorem body_X11_stands : xm_Body 3 2 0 0 [] lX11_stands kX11_stands S_X11_stands := by
  intro X avs w Q QX hX0 hS
  have hG := xm_go [] hX0
  have hX := xm_go [2, 91, 117, 153, 230] hX0
  clear hX0
  obtain ⟨I, rfl, rfl, F, hF, hFm, hr, hQ⟩ := hS
  have e9 : Int32.ofInt 9 = nI 9 := by decide +kernel
  have e17 : Int32.ofInt 17 = nI 17 := by decide +kernel
  have e105 : Int32.ofInt 105 = nI 105 := by decide +kernel
  have e107 : Int32.ofInt 107 = nI 107 := by decide +kernel
  obtain ⟨hF0, hF9, hF1, hF8, hF2, hF6⟩ := hF
  have fin : ∀ M o, (o = none ∨ ∃ z, o = some (.int z)) → t_z t_stD I (t_std F) (t_st14 F 8) M → X 153 [some (.ref 0), some (.int (nI 8)), o] [] (tW M) 0 0 := by
    intro M o ho hM
    have hlt : Int32.ofInt 8 ≤ nI 8 := by decide +kernel
    have hall : ∀ k, k < 107 → M 38 k = t_beg F k := fun k hk => (hM.2 38 k (by unfold t_st14 t_st38 t_a38 t_a14; omega)).trans rfl
    have n0 : ¬ t_stD 0 := by unfold t_stD; omega
    refine hG _ _ _ _ _ _ ?_
    (conv => whnf)
    repeat' (first
      | ((with_reducible refine @And.intro (vp_in _ _) _ ?_ ?_); (· (first | with_reducible assumption | ((with_reducible refine t_vin ?_); decide) | ((with_reducible refine vp_in_nI ?_ ?_) <;> first | omega | decide) | (simp (disch := omega) only [xl_n, xl_m, nI_dec, nI_sb, nI_add, pk_mul]; (with_reducible refine vp_in_nI ?_ ?_) <;> first | omega | decide))); (conv => whnf))
      | (refine And.intro (by first | with_reducible assumption | exact (show tL _ = _ from rfl) | decide) ?_; (conv => whnf))
      | ((with_reducible refine @And.intro (_ = _) _ ?_ ?_); (· rfl); (conv => whnf))
      | ((with_reducible refine @And.intro (@LE.le Nat _ _ _) _ ?_ ?_); (· (first | exact Nat.zero_le _ | exact Nat.le_of_ble_eq_true rfl | omega)); (conv => whnf))
      | ((with_reducible refine @And.intro (@LT.lt Nat _ _ _) _ ?_ ?_); (· omega); (conv => whnf))
      | ((with_reducible refine @And.intro (∃ _, _ = _) _ ?_ ?_); (· exact ⟨_, rfl⟩); (conv => whnf))
      | ((with_reducible refine @And.intro (_ ∨ _) _ ?_ ?_); (· (first | exact Or.inl rfl | exact Or.inr rfl | exact t_b01 _ | assumption)); (conv => whnf))
      | ((with_reducible refine @And.intro (¬ (_ = _)) _ ?_ ?_); (· first | assumption | (with_reducible assumption)); (conv => whnf))
      | (refine hX _ _ _ _ _ _ ?_; (conv => whnf); fail_if_success show False)
      | (rw [t_si]; simp (disch := omega) only [xl_n, xl_m, nI_dec, nI_sb, xl_0, xl_1, tW_i, t_bn0, t_bn1, Classical.not_not, t_lt, nI_add, nI_1, pk_mul, nI_clamp, t_si, nI_eq, nI_leI, nM_ne, nM_ne, xm_u2_ne, xm_u2_at, reduceIte, tK_u, tA_u, Nat.reduceEqDiff]; (conv => whnf))
      | (refine ⟨_, rfl, ?_⟩; (conv => whnf))
      | (refine ⟨_, _, rfl, ?_⟩; (conv => whnf))
      | (refine ⟨_, _, _, rfl, ?_⟩; (conv => whnf))
      | (refine ⟨_, _, _, _, rfl, ?_⟩; (conv => whnf))
      | (refine And.intro (fun c => ?_) (fun c => ?_) <;> (first | (exact absurd c (by decide +kernel)) | (exact absurd c (by assumption)) | (exact False.elim (c (by assumption))) | (conv => whnf)))
      | fail)
    intro J hJ hJ36
    (conv => whnf)
    repeat' (first
      | ((with_reducible refine @And.intro (vp_in _ _) _ ?_ ?_); (· (first | with_reducible assumption | ((with_reducible refine t_vin ?_); decide) | ((with_reducible refine vp_in_nI ?_ ?_) <;> first | omega | decide) | (simp (disch := omega) only [xl_n, xl_m, nI_dec, nI_sb, nI_add, pk_mul]; (with_reducible refine vp_in_nI ?_ ?_) <;> first | omega | decide))); (conv => whnf))
      | (refine And.intro (by first | with_reducible assumption | exact (show tL _ = _ from rfl) | decide) ?_; (conv => whnf))
      | ((with_reducible refine @And.intro (_ = _) _ ?_ ?_); (· rfl); (conv => whnf))
      | ((with_reducible refine @And.intro (@LE.le Nat _ _ _) _ ?_ ?_); (· (first | exact Nat.zero_le _ | exact Nat.le_of_ble_eq_true rfl | omega)); (conv => whnf))
      | ((with_reducible refine @And.intro (@LT.lt Nat _ _ _) _ ?_ ?_); (· omega); (conv => whnf))
      | ((with_reducible refine @And.intro (∃ _, _ = _) _ ?_ ?_); (· exact ⟨_, rfl⟩); (conv => whnf))
      | ((with_reducible refine @And.intro (_ ∨ _) _ ?_ ?_); (· (first | exact Or.inl rfl | exact Or.inr rfl | exact t_b01 _ | assumption)); (conv => whnf))
      | ((with_reducible refine @And.intro (¬ (_ = _)) _ ?_ ?_); (· first | assumption | (with_reducible assumption)); (conv => whnf))
      | (refine hX _ _ _ _ _ _ ?_; (conv => whnf); fail_if_success show False)
      | (rw [t_si]; simp (disch := omega) only [xl_n, xl_m, nI_dec, nI_sb, xl_0, xl_1, tW_i, t_bn0, t_bn1, Classical.not_not, t_lt, nI_add, nI_1, pk_mul, nI_clamp, t_si, nI_eq, nI_leI, nM_ne, nM_ne, xm_u2_ne, xm_u2_at, reduceIte, tK_u, tA_u, Nat.reduceEqDiff]; (conv => whnf))
      | (refine ⟨_, rfl, ?_⟩; (conv => whnf))
      | (refine ⟨_, _, rfl, ?_⟩; (conv => whnf))
      | (refine ⟨_, _, _, rfl, ?_⟩; (conv => whnf))
      | (refine ⟨_, _, _, _, rfl, ?_⟩; (conv => whnf))
      | (refine And.intro (fun c => ?_) (fun c => ?_) <;> (first | (exact absurd c (by decide +kernel)) | (exact absurd c (by assumption)) | (exact False.elim (c (by assumption))) | (conv => whnf)))
      | fail)
    intro J3 h37 hot h0 h42
    (conv => whnf)
    repeat' (first
      | ((with_reducible refine @And.intro (vp_in _ _) _ ?_ ?_); (· (first | with_reducible assumption | ((with_reducible refine t_vin ?_); decide) | ((with_reducible refine vp_in_nI ?_ ?_) <;> first | omega | decide) | (simp (disch := omega) only [xl_n, xl_m, nI_dec, nI_sb, nI_add, pk_mul]; (with_reducible refine vp_in_nI ?_ ?_) <;> first | omega | decide))); (conv => whnf))
      | (refine And.intro (by first | with_reducible assumption | exact (show tL _ = _ from rfl) | decide) ?_; (conv => whnf))
      | ((with_reducible refine @And.intro (_ = _) _ ?_ ?_); (· rfl); (conv => whnf))
      | ((with_reducible refine @And.intro (@LE.le Nat _ _ _) _ ?_ ?_); (· (first | exact Nat.zero_le _ | exact Nat.le_of_ble_eq_true rfl | omega)); (conv => whnf))
      | ((with_reducible refine @And.intro (@LT.lt Nat _ _ _) _ ?_ ?_); (· omega); (conv => whnf))
      | ((with_reducible refine @And.intro (∃ _, _ = _) _ ?_ ?_); (· exact ⟨_, rfl⟩); (conv => whnf))
      | ((with_reducible refine @And.intro (_ ∨ _) _ ?_ ?_); (· (first | exact Or.inl rfl | exact Or.inr rfl | exact t_b01 _ | assumption)); (conv => whnf))
      | ((with_reducible refine @And.intro (¬ (_ = _)) _ ?_ ?_); (· first | assumption | (with_reducible assumption)); (conv => whnf))
      | (refine hX _ _ _ _ _ _ ?_; (conv => whnf); fail_if_success show False)
      | (rw [t_si]; (conv => whnf))
      | (refine ⟨_, rfl, ?_⟩; (conv => whnf))
      | (refine ⟨_, _, rfl, ?_⟩; (conv => whnf))
      | (refine ⟨_, _, _, rfl, ?_⟩; (conv => whnf))
      | (refine ⟨_, _, _, _, rfl, ?_⟩; (conv => whnf))
      | (refine And.intro (fun c => ?_) (fun c => ?_) <;> (first | (exact absurd c (by decide +kernel)) | (conv => whnf)))
      | fail)
    clear hX hG
    have e0 : ∀ b, b ≠ 0 → b ≠ 36 → b ≠ 37 → J3 b = M b := fun b h1 h2 h3 => by
      rw [hot b h3 h1, ← hJ b h2]
      exact funext fun j => by rw [xm_u2_ne h1, xm_u2_ne h1, xm_u2_ne h1]
    have e36 : ∀ k, k < 107 → J3 36 k = t_beg F k := fun k hk => by
      rw [hot 36 (by decide) (by decide), xm_u2_ne (by decide), xm_u2_ne (by decide), xm_u2_ne (by decide), hJ36 k hk]
      exact hall k hk
    have e37 : ∀ k, k < 107 → J3 37 k = t_beg F k := fun k hk => by
      rw [h37 k hk, xm_u2_ne (by decide), xm_u2_ne (by decide), xm_u2_ne (by decide), hJ36 k hk]
      exact hall k hk
    refine hQ J3 (fun b hb hd => ?_) (fun k h1 h2 h3 h4 => ?_) ?_ ?_ h42 ?_ (fun b k h => ?_)
    · rw [e0 b hb (fun q => hd (by unfold t_stD; omega)) (fun q => hd (by unfold t_stD; omega))]
      exact hM.1 b hd
    · rw [h0 k h3, xm_u2_at, if_neg h4, xm_u2_at, if_neg h2, xm_u2_at, if_neg h1, hJ 0 (by decide), hM.1 0 n0]
    · rw [h0 27 (by decide)]
      rfl
    · rw [h0 41 (by decide)]
      rfl
    · rw [h0 43 (by decide)]
      rfl
    · by_cases q6 : b = 36
      · subst q6
        rcases h with h | h
        · exact absurd h (by unfold t_st14 t_st38 t_a38 t_st18 t_stS t_a14; omega)
        · exact e36 k h.2
      · by_cases q7 : b = 37
        · subst q7
          rcases h with h | h
          · exact absurd h (by unfold t_st14 t_st38 t_a38 t_st18 t_stS t_a14; omega)
          · exact e37 k h.2
        · have hb0 : b ≠ 0 := fun q => by
            subst q
            rcases h with h | h
            · exact absurd h (by unfold t_st14 t_st38 t_a38 t_st18 t_stS t_a14; omega)
            · omega
          rw [e0 b hb0 q6 q7]
          rcases h with h | h
          · exact hM.2 b k h
          · have : b = 38 := by omega
            subst this
            exact hall k h.2
  have l230 : ∀ p, p < 8 → (∀ M o, (o = none ∨ ∃ z, o = some (.int z)) → t_z t_stD I (t_std F) (t_st14 F (p + 1)) M → X 153 [some (.ref 0), some (.int (nI (p + 1))), o] [] (tW M) 0 0) → ∀ h, h ≤ 9 → ∀ M, t_z t_stD I (t_std F) (fun b k => t_st38 F 107 b k ∨ (t_a14 p b k ∨ ((b = 14 ∨ b = 16) ∧ k = p) ∨ (b = 38 ∧ (k = 1 + p ∨ k = 9 + p)) ∨ (b = 38 ∧ 25 ≤ k ∧ k < 97 ∧ (k - 25) % 8 = p ∧ (k - 25) / 8 < h))) M → X 230 [some (.ref 0), some (.int (nI p)), some (.int (nI h))] [] (tW M) 0 0 := by
    intro p hp hn
    refine t_for fun h h1 ih M hM => ?_
    have e14 : M 14 p = F 13 p := (hM.2 14 p (Or.inr (by omega))).trans rfl
    rcases Nat.lt_or_ge h 9 with hh | hh
    · have hlt : ¬ Int32.ofInt 9 ≤ nI h := by rw [e9]; exact nI_ge hh (by decide)
      have ev : t_std F 38 (25 + 8 * h + p) = if t_has (F 13 p) h = true then nI 0 else nM := by
        show t_beg F (25 + 8 * h + p) = _
        unfold t_beg
        rw [if_neg (by omega), if_neg (by omega), if_neg (by omega), if_neg (by omega), if_pos (by omega), show (25 + 8 * h + p - 25) % 8 = p by omega, show (25 + 8 * h + p - 25) / 8 = h by omega]
      have go := fun v (hv : v = t_std F 38 (25 + 8 * h + p)) => ih (h + 1) (by omega) (by omega) (xm_u2 M 38 (25 + 8 * h + p) v) (hM.wp (by unfold t_stD; omega) hv (fun b k => by unfold t_a14; omega))
      rw [ev] at go
      clear ih hn
      cases hc : t_has (F 13 p) h with
      | true =>
        have := go (nI 0) (by rw [hc]; rfl)
        rw [← e14] at hc
        clear go
        have hcb : ¬ t_b (t_has ((tW M).2.1 14 (nI p).toNatClampNeg) h) = 0 := by
          rw [nI_clamp (by omega)]
          show ¬ t_b (t_has (M 14 p) h) = 0
          rw [hc]
          decide +kernel
        refine hG _ _ _ _ _ _ ?_
        (conv => whnf)
        repeat' (first
          | ((with_reducible refine @And.intro (vp_in _ _) _ ?_ ?_); (· (first | with_reducible assumption | ((with_reducible refine t_vin ?_); decide) | ((with_reducible refine vp_in_nI ?_ ?_) <;> first | omega | decide) | (simp (disch := omega) only [xl_n, xl_m, nI_dec, nI_sb, nI_add, pk_mul]; (with_reducible refine vp_in_nI ?_ ?_) <;> first | omega | decide))); (conv => whnf))
          | (refine And.intro (by first | with_reducible assumption | exact (show tL _ = _ from rfl) | decide) ?_; (conv => whnf))
          | ((with_reducible refine @And.intro (_ = _) _ ?_ ?_); (· rfl); (conv => whnf))
          | ((with_reducible refine @And.intro (@LE.le Nat _ _ _) _ ?_ ?_); (· (first | exact Nat.zero_le _ | exact Nat.le_of_ble_eq_true rfl | omega)); (conv => whnf))
          | ((with_reducible refine @And.intro (@LT.lt Nat _ _ _) _ ?_ ?_); (· omega); (conv => whnf))
          | ((with_reducible refine @And.intro (∃ _, _ = _) _ ?_ ?_); (· exact ⟨_, rfl⟩); (conv => whnf))
          | ((with_reducible refine @And.intro (_ ∨ _) _ ?_ ?_); (· (first | exact Or.inl rfl | exact Or.inr rfl | exact t_b01 _ | assumption)); (conv => whnf))
          | ((with_reducible refine @And.intro (¬ (_ = _)) _ ?_ ?_); (· first | assumption | (with_reducible assumption)); (conv => whnf))
          | (refine hX _ _ _ _ _ _ ?_; (conv => whnf); fail_if_success show False)
          | (rw [t_si]; simp (disch := omega) only [xl_n, xl_m, nI_dec, nI_sb, xl_0, xl_1, tW_i, t_bn0, t_bn1, Classical.not_not, t_lt, nI_add, nI_1, pk_mul, nI_clamp, t_si, nI_eq, nI_leI, nM_ne, nM_ne, xm_u2_ne, xm_u2_at, reduceIte, tK_u, tA_u, Nat.reduceEqDiff]; (conv => whnf))
          | (refine ⟨_, rfl, ?_⟩; (conv => whnf))
          | (refine ⟨_, _, rfl, ?_⟩; (conv => whnf))
          | (refine ⟨_, _, _, rfl, ?_⟩; (conv => whnf))
          | (refine ⟨_, _, _, _, rfl, ?_⟩; (conv => whnf))
          | (refine And.intro (fun c => ?_) (fun c => ?_) <;> (first | (exact absurd c (by decide +kernel)) | (exact absurd c (by assumption)) | (exact False.elim (c (by assumption))) | (conv => whnf)))
          | fail)
        clear hX hG
        simp (disch := omega) only [xl_n, xl_m, nI_dec, nI_sb, xl_0, xl_1, tW_i, t_bn0, t_bn1, Classical.not_not, t_lt, nI_add, nI_1, pk_mul, nI_clamp, t_si, nI_eq, nI_leI, nM_ne, nM_ne, xm_set] at *
        exact this
      | false =>
        have := go nM (by rw [hc]; rfl)
        rw [← e14] at hc
        clear go
        have hcb : t_b (t_has ((tW M).2.1 14 (nI p).toNatClampNeg) h) = 0 := by
          rw [nI_clamp (by omega)]
          show t_b (t_has (M 14 p) h) = 0
          rw [hc]
          decide +kernel
        refine hG _ _ _ _ _ _ ?_
        (conv => whnf)
        repeat' (first
          | ((with_reducible refine @And.intro (vp_in _ _) _ ?_ ?_); (· (first | with_reducible assumption | ((with_reducible refine t_vin ?_); decide) | ((with_reducible refine vp_in_nI ?_ ?_) <;> first | omega | decide) | (simp (disch := omega) only [xl_n, xl_m, nI_dec, nI_sb, nI_add, pk_mul]; (with_reducible refine vp_in_nI ?_ ?_) <;> first | omega | decide))); (conv => whnf))
          | (refine And.intro (by first | with_reducible assumption | exact (show tL _ = _ from rfl) | decide) ?_; (conv => whnf))
          | ((with_reducible refine @And.intro (_ = _) _ ?_ ?_); (· rfl); (conv => whnf))
          | ((with_reducible refine @And.intro (@LE.le Nat _ _ _) _ ?_ ?_); (· (first | exact Nat.zero_le _ | exact Nat.le_of_ble_eq_true rfl | omega)); (conv => whnf))
          | ((with_reducible refine @And.intro (@LT.lt Nat _ _ _) _ ?_ ?_); (· omega); (conv => whnf))
          | ((with_reducible refine @And.intro (∃ _, _ = _) _ ?_ ?_); (· exact ⟨_, rfl⟩); (conv => whnf))
          | ((with_reducible refine @And.intro (_ ∨ _) _ ?_ ?_); (· (first | exact Or.inl rfl | exact Or.inr rfl | exact t_b01 _ | assumption)); (conv => whnf))
          | ((with_reducible refine @And.intro (¬ (_ = _)) _ ?_ ?_); (· first | assumption | (with_reducible assumption)); (conv => whnf))
          | (refine hX _ _ _ _ _ _ ?_; (conv => whnf); fail_if_success show False)
          | (rw [t_si]; simp (disch := omega) only [xl_n, xl_m, nI_dec, nI_sb, xl_0, xl_1, tW_i, t_bn0, t_bn1, Classical.not_not, t_lt, nI_add, nI_1, pk_mul, nI_clamp, t_si, nI_eq, nI_leI, nM_ne, nM_ne, xm_u2_ne, xm_u2_at, reduceIte, tK_u, tA_u, Nat.reduceEqDiff]; (conv => whnf))
          | (refine ⟨_, rfl, ?_⟩; (conv => whnf))
          | (refine ⟨_, _, rfl, ?_⟩; (conv => whnf))
          | (refine ⟨_, _, _, rfl, ?_⟩; (conv => whnf))
          | (refine ⟨_, _, _, _, rfl, ?_⟩; (conv => whnf))
          | (refine And.intro (fun c => ?_) (fun c => ?_) <;> (first | (exact absurd c (by decide +kernel)) | (exact absurd c (by assumption)) | (exact False.elim (c (by assumption))) | (conv => whnf)))
          | fail)
        clear hX hG
        simp (disch := omega) only [xl_n, xl_m, nI_dec, nI_sb, xl_0, xl_1, tW_i, t_bn0, t_bn1, Classical.not_not, t_lt, nI_add, nI_1, pk_mul, nI_clamp, t_si, nI_eq, nI_leI, nM_ne, nM_ne, xm_set] at *
        exact this
    · have e : h = 9 := by omega
      subst e
      have hlt : Int32.ofInt 9 ≤ nI 9 := by decide +kernel
      have := hn M (some (.int (nI 9))) (Or.inr ⟨_, rfl⟩) (hM.sp (A' := t_a14 (p + 1)) fun b k => by unfold t_a14; omega)
      clear ih hn
      refine hG _ _ _ _ _ _ ?_
      (conv => whnf)
      repeat' (first
        | ((with_reducible refine @And.intro (vp_in _ _) _ ?_ ?_); (· (first | with_reducible assumption | ((with_reducible refine t_vin ?_); decide) | ((with_reducible refine vp_in_nI ?_ ?_) <;> first | omega | decide) | (simp (disch := omega) only [xl_n, xl_m, nI_dec, nI_sb, nI_add, pk_mul]; (with_reducible refine vp_in_nI ?_ ?_) <;> first | omega | decide))); (conv => whnf))
        | (refine And.intro (by first | with_reducible assumption | exact (show tL _ = _ from rfl) | decide) ?_; (conv => whnf))
        | ((with_reducible refine @And.intro (_ = _) _ ?_ ?_); (· rfl); (conv => whnf))
        | ((with_reducible refine @And.intro (@LE.le Nat _ _ _) _ ?_ ?_); (· (first | exact Nat.zero_le _ | exact Nat.le_of_ble_eq_true rfl | omega)); (conv => whnf))
        | ((with_reducible refine @And.intro (@LT.lt Nat _ _ _) _ ?_ ?_); (· omega); (conv => whnf))
        | ((with_reducible refine @And.intro (∃ _, _ = _) _ ?_ ?_); (· exact ⟨_, rfl⟩); (conv => whnf))
        | ((with_reducible refine @And.intro (_ ∨ _) _ ?_ ?_); (· (first | exact Or.inl rfl | exact Or.inr rfl | exact t_b01 _ | assumption)); (conv => whnf))
        | ((with_reducible refine @And.intro (¬ (_ = _)) _ ?_ ?_); (· first | assumption | (with_reducible assumption)); (conv => whnf))
        | (refine hX _ _ _ _ _ _ ?_; (conv => whnf); fail_if_success show False)
        | (rw [t_si]; simp (disch := omega) only [xl_n, xl_m, nI_dec, nI_sb, xl_0, xl_1, tW_i, t_bn0, t_bn1, Classical.not_not, t_lt, nI_add, nI_1, pk_mul, nI_clamp, t_si, nI_eq, nI_leI, nM_ne, nM_ne, xm_u2_ne, xm_u2_at, reduceIte, tK_u, tA_u, Nat.reduceEqDiff]; (conv => whnf))
        | (refine ⟨_, rfl, ?_⟩; (conv => whnf))
        | (refine ⟨_, _, rfl, ?_⟩; (conv => whnf))
        | (refine ⟨_, _, _, rfl, ?_⟩; (conv => whnf))
        | (refine ⟨_, _, _, _, rfl, ?_⟩; (conv => whnf))
        | (refine And.intro (fun c => ?_) (fun c => ?_) <;> (first | (exact absurd c (by decide +kernel)) | (exact absurd c (by assumption)) | (exact False.elim (c (by assumption))) | (conv => whnf)))
        | fail)
      clear hX hG
      simp (disch := omega) only [xl_n, xl_m, nI_dec, nI_sb, xl_0, xl_1, tW_i, t_bn0, t_bn1, Classical.not_not, t_lt, nI_add, nI_1, pk_mul, nI_clamp, t_si, nI_eq, nI_leI, nM_ne, nM_ne, xm_set] at *
      exact this
  have l153 : ∀ p, p ≤ 8 → ∀ M o, (o = none ∨ ∃ z, o = some (.int z)) → t_z t_stD I (t_std F) (t_st14 F p) M → X 153 [some (.ref 0), some (.int (nI p)), o] [] (tW M) 0 0 := by
    refine t_for fun p h1 ih M o ho hM => ?_
    rcases Nat.lt_or_ge p 8 with hp | hp
    · have hlt : ¬ Int32.ofInt 8 ≤ nI p := by rw [xl_n.2.2.2.2.2.2.2.2.1]; exact nI_ge hp (by decide)
      have e13 : M 13 p = F 13 p := hr.o hM (by unfold t_stD; omega) (f_in_13 hp)
      have e15 : M 15 p = F 15 p := hr.o hM (by unfold t_stD; omega) (f_in_15 hp)
      have e12 : M 12 1 = nI (f_p F) := (hM.2 12 1 (Or.inl (Or.inl (Or.inl (Or.inl ⟨rfl, by decide⟩))))).trans hF1
      have e1 : ∀ v, v = F 13 p → v = t_std F 38 (1 + p) := fun v hv => by
        rw [hv]
        show _ = t_beg F (1 + p)
        unfold t_beg
        rw [if_neg (by omega), if_pos (by omega), show 1 + p - 1 = p by omega]
      have hA : t_z t_stD I (t_std F) (fun b k => t_st38 F 107 b k ∨ (t_a14 p b k ∨ (b = 14 ∧ k = p))) (xm_u2 M 14 p (F 13 p)) := t_z.wp (P := t_st38 F 107) (A := t_a14 p) hM (by unfold t_stD; omega) rfl (fun b k => by unfold t_a14; omega)
      have hB : t_z t_stD I (t_std F) (fun b k => t_st38 F 107 b k ∨ (t_a14 p b k ∨ ((b = 14 ∨ b = 16) ∧ k = p))) (xm_u2 (xm_u2 M 14 p (F 13 p)) 16 p (F 15 p)) := hA.wp (by unfold t_stD; omega) rfl (fun b k => by unfold t_a14; omega)
      have hC : t_z t_stD I (t_std F) (fun b k => t_st38 F 107 b k ∨ (t_a14 p b k ∨ ((b = 14 ∨ b = 16) ∧ k = p) ∨ (b = 38 ∧ k = 1 + p))) (xm_u2 (xm_u2 (xm_u2 M 14 p (F 13 p)) 16 p (F 15 p)) 38 (1 + p) (F 13 p)) := hB.wp (by unfold t_stD; omega) (e1 _ rfl) (fun b k => by unfold t_a14; omega)
      have go := fun v (hv : v = t_std F 38 (9 + p)) => l230 p hp (ih (p + 1) (by omega) (by omega)) 0 (by omega) _ (hC.wp (v := v) (b := 38) (k := 9 + p) (by unfold t_stD; omega) hv (fun b k => by unfold t_a14; omega))
      clear hA hB hC
      have e9p : t_std F 38 (9 + p) = if p < f_p F then F (120 + p) 2 else nI 0 := by
        show t_beg F (9 + p) = _
        unfold t_beg
        rw [if_neg (by omega), if_neg (by omega), if_pos (by omega), show 9 + p - 9 = p by omega]
      rw [e9p] at go
      clear ih l230 fin e1 e9p
      by_cases hc : p < f_p F
      · have e132 : M (130 + p) 2 = F (120 + p) 2 := (hM.2 (130 + p) 2 (Or.inl (Or.inl (Or.inl (Or.inr (Or.inr (Or.inl ⟨by omega, by omega, by decide⟩))))))).trans (by
          show (if 130 + p = 12 then _ else _) = _
          rw [if_neg (by omega), if_neg (by omega), if_neg (by omega), if_neg (by omega), if_pos (by omega), show 130 + p - 10 = 120 + p by omega])
        have := go (F (120 + p) 2) (by rw [if_pos hc])
        rw [← e13, ← e15, ← e132] at this
        have hlt2 : ¬ M 12 1 ≤ nI p := by rw [e12]; exact nI_ge hc (by omega)
        clear go
        refine hG _ _ _ _ _ _ ?_
        (conv => whnf)
        repeat' (first
          | ((with_reducible refine @And.intro (vp_in _ _) _ ?_ ?_); (· (first | with_reducible assumption | ((with_reducible refine t_vin ?_); decide) | ((with_reducible refine vp_in_nI ?_ ?_) <;> first | omega | decide) | (simp (disch := omega) only [xl_n, xl_m, nI_dec, nI_sb, nI_add, pk_mul]; (with_reducible refine vp_in_nI ?_ ?_) <;> first | omega | decide))); (conv => whnf))
          | (refine And.intro (by first | with_reducible assumption | exact (show tL _ = _ from rfl) | decide) ?_; (conv => whnf))
          | ((with_reducible refine @And.intro (_ = _) _ ?_ ?_); (· rfl); (conv => whnf))
          | ((with_reducible refine @And.intro (@LE.le Nat _ _ _) _ ?_ ?_); (· (first | exact Nat.zero_le _ | exact Nat.le_of_ble_eq_true rfl | omega)); (conv => whnf))
          | ((with_reducible refine @And.intro (@LT.lt Nat _ _ _) _ ?_ ?_); (· omega); (conv => whnf))
          | ((with_reducible refine @And.intro (∃ _, _ = _) _ ?_ ?_); (· exact ⟨_, rfl⟩); (conv => whnf))
          | ((with_reducible refine @And.intro (_ ∨ _) _ ?_ ?_); (· (first | exact Or.inl rfl | exact Or.inr rfl | exact t_b01 _ | assumption)); (conv => whnf))
          | ((with_reducible refine @And.intro (¬ (_ = _)) _ ?_ ?_); (· first | assumption | (with_reducible assumption)); (conv => whnf))
          | (refine hX _ _ _ _ _ _ ?_; (conv => whnf); fail_if_success show False)
          | (rw [t_si]; simp (disch := omega) only [xl_n, xl_m, nI_dec, nI_sb, xl_0, xl_1, tW_i, t_bn0, t_bn1, Classical.not_not, t_lt, nI_add, nI_1, pk_mul, nI_clamp, t_si, nI_eq, nI_leI, nM_ne, nM_ne, xm_u2_ne, xm_u2_at, reduceIte, tK_u, tA_u, Nat.reduceEqDiff]; (conv => whnf))
          | (refine ⟨_, rfl, ?_⟩; (conv => whnf))
          | (refine ⟨_, _, rfl, ?_⟩; (conv => whnf))
          | (refine ⟨_, _, _, rfl, ?_⟩; (conv => whnf))
          | (refine ⟨_, _, _, _, rfl, ?_⟩; (conv => whnf))
          | (rw [t_l130 (by first | with_reducible assumption | omega | exact vp_lt (by assumption) | (rw [nI_clamp (by omega)]; omega))]; (conv => whnf))
          | (refine And.intro (fun c => ?_) (fun c => ?_) <;> (first | (exact absurd c (by decide +kernel)) | (exact absurd c (by assumption)) | (exact False.elim (c (by assumption))) | (conv => whnf)))
          | fail)
        clear hX hG
        simp (disch := omega) only [xl_n, xl_m, nI_dec, nI_sb, xl_0, xl_1, tW_i, t_bn0, t_bn1, Classical.not_not, t_lt, nI_add, nI_1, pk_mul, nI_clamp, t_si, nI_eq, nI_leI, nM_ne, nM_ne, xm_set] at *
        exact this
      · have := go (nI 0) (by rw [if_neg hc])
        rw [← e13, ← e15] at this
        have hlt2 : M 12 1 ≤ nI p := by rw [e12]; exact nI_le (by omega) (by omega)
        clear go
        refine hG _ _ _ _ _ _ ?_
        (conv => whnf)
        repeat' (first
          | ((with_reducible refine @And.intro (vp_in _ _) _ ?_ ?_); (· (first | with_reducible assumption | ((with_reducible refine t_vin ?_); decide) | ((with_reducible refine vp_in_nI ?_ ?_) <;> first | omega | decide) | (simp (disch := omega) only [xl_n, xl_m, nI_dec, nI_sb, nI_add, pk_mul]; (with_reducible refine vp_in_nI ?_ ?_) <;> first | omega | decide))); (conv => whnf))
          | (refine And.intro (by first | with_reducible assumption | exact (show tL _ = _ from rfl) | decide) ?_; (conv => whnf))
          | ((with_reducible refine @And.intro (_ = _) _ ?_ ?_); (· rfl); (conv => whnf))
          | ((with_reducible refine @And.intro (@LE.le Nat _ _ _) _ ?_ ?_); (· (first | exact Nat.zero_le _ | exact Nat.le_of_ble_eq_true rfl | omega)); (conv => whnf))
          | ((with_reducible refine @And.intro (@LT.lt Nat _ _ _) _ ?_ ?_); (· omega); (conv => whnf))
          | ((with_reducible refine @And.intro (∃ _, _ = _) _ ?_ ?_); (· exact ⟨_, rfl⟩); (conv => whnf))
          | ((with_reducible refine @And.intro (_ ∨ _) _ ?_ ?_); (· (first | exact Or.inl rfl | exact Or.inr rfl | exact t_b01 _ | assumption)); (conv => whnf))
          | ((with_reducible refine @And.intro (¬ (_ = _)) _ ?_ ?_); (· first | assumption | (with_reducible assumption)); (conv => whnf))
          | (refine hX _ _ _ _ _ _ ?_; (conv => whnf); fail_if_success show False)
          | (rw [t_si]; simp (disch := omega) only [xl_n, xl_m, nI_dec, nI_sb, xl_0, xl_1, tW_i, t_bn0, t_bn1, Classical.not_not, t_lt, nI_add, nI_1, pk_mul, nI_clamp, t_si, nI_eq, nI_leI, nM_ne, nM_ne, xm_u2_ne, xm_u2_at, reduceIte, tK_u, tA_u, Nat.reduceEqDiff]; (conv => whnf))
          | (refine ⟨_, rfl, ?_⟩; (conv => whnf))
          | (refine ⟨_, _, rfl, ?_⟩; (conv => whnf))
          | (refine ⟨_, _, _, rfl, ?_⟩; (conv => whnf))
          | (refine ⟨_, _, _, _, rfl, ?_⟩; (conv => whnf))
          | (refine And.intro (fun c => ?_) (fun c => ?_) <;> (first | (exact absurd c (by decide +kernel)) | (exact absurd c (by assumption)) | (exact False.elim (c (by assumption))) | (conv => whnf)))
          | fail)
        clear hX hG
        simp (disch := omega) only [xl_n, xl_m, nI_dec, nI_sb, xl_0, xl_1, tW_i, t_bn0, t_bn1, Classical.not_not, t_lt, nI_add, nI_1, pk_mul, nI_clamp, t_si, nI_eq, nI_leI, nM_ne, nM_ne, xm_set] at *
        exact this
    · have e : p = 8 := by omega
      subst e
      exact fin M o ho hM
  have l117 : ∀ k, k ≤ 107 → ∀ M o, (o = none ∨ ∃ z, o = some (.int z)) → t_z t_stD I (t_std F) (t_st38 F k) M → X 117 [some (.ref 0), some (.int (nI k)), o] [] (tW M) 0 0 := by
    refine t_for fun k h1 ih M o ho hM => ?_
    rcases Nat.lt_or_ge k 107 with hk | hk
    · have hlt : ¬ Int32.ofInt 107 ≤ nI k := by rw [e107]; exact nI_ge hk (by decide)
      have go : ∀ v, ((k = 0 ∨ (17 ≤ k ∧ k < 25) ∨ 97 ≤ k) → v = t_beg F k) → X 117 [some (.ref 0), some (.int (nI (k + 1))), o] [] (tW (xm_u2 M 38 k v)) 0 0 := fun v hv => ih (k + 1) (by omega) (by omega) _ o ho (by
        by_cases q : k = 0 ∨ (17 ≤ k ∧ k < 25) ∨ 97 ≤ k
        · exact t_z.wp (P := t_st18 F 9) (A := t_a38 k) hM (by unfold t_stD; omega) (hv q) (fun b k => by unfold t_a38; omega)
        · exact t_z.xp (P := t_st18 F 9) (A := t_a38 k) hM (by unfold t_stD; omega) (fun b k => by unfold t_st18 t_stS; omega) (fun b k => by unfold t_a38; omega))
      clear ih l153 l230 fin
      by_cases hc : 17 ≤ k ∧ k ≤ 105
      · have hin : t_in (nI k) (Int32.ofInt 17) (Int32.ofInt 105) = true := by rw [e17, e105]; exact t_in_n hc.1 hc.2 (by decide)
        have := go nM (fun q => by
          unfold t_beg
          rw [if_neg (by omega), if_neg (by omega), if_neg (by omega)]
          by_cases q2 : k < 25
          · rw [if_pos q2]
          · rw [if_neg q2, if_neg (by omega), if_pos (by omega)])
        clear go
        refine hG _ _ _ _ _ _ ?_
        (conv => whnf)
        repeat' (first
          | ((with_reducible refine @And.intro (vp_in _ _) _ ?_ ?_); (· (first | with_reducible assumption | ((with_reducible refine t_vin ?_); decide) | ((with_reducible refine vp_in_nI ?_ ?_) <;> first | omega | decide) | (simp (disch := omega) only [xl_n, xl_m, nI_dec, nI_sb, nI_add, pk_mul]; (with_reducible refine vp_in_nI ?_ ?_) <;> first | omega | decide))); (conv => whnf))
          | (refine And.intro (by first | with_reducible assumption | exact (show tL _ = _ from rfl) | decide) ?_; (conv => whnf))
          | ((with_reducible refine @And.intro (_ = _) _ ?_ ?_); (· rfl); (conv => whnf))
          | ((with_reducible refine @And.intro (@LE.le Nat _ _ _) _ ?_ ?_); (· (first | exact Nat.zero_le _ | exact Nat.le_of_ble_eq_true rfl | omega)); (conv => whnf))
          | ((with_reducible refine @And.intro (@LT.lt Nat _ _ _) _ ?_ ?_); (· omega); (conv => whnf))
          | ((with_reducible refine @And.intro (∃ _, _ = _) _ ?_ ?_); (· exact ⟨_, rfl⟩); (conv => whnf))
          | ((with_reducible refine @And.intro (_ ∨ _) _ ?_ ?_); (· (first | exact Or.inl rfl | exact Or.inr rfl | exact t_b01 _ | assumption)); (conv => whnf))
          | ((with_reducible refine @And.intro (¬ (_ = _)) _ ?_ ?_); (· first | assumption | (with_reducible assumption)); (conv => whnf))
          | (refine hX _ _ _ _ _ _ ?_; (conv => whnf); fail_if_success show False)
          | (rw [t_si]; simp (disch := omega) only [xl_n, xl_m, nI_dec, nI_sb, xl_0, xl_1, tW_i, t_bn0, t_bn1, Classical.not_not, t_lt, nI_add, nI_1, pk_mul, nI_clamp, t_si, nI_eq, nI_leI, nM_ne, nM_ne, xm_u2_ne, xm_u2_at, reduceIte, tK_u, tA_u, Nat.reduceEqDiff]; (conv => whnf))
          | (refine ⟨_, rfl, ?_⟩; (conv => whnf))
          | (refine ⟨_, _, rfl, ?_⟩; (conv => whnf))
          | (refine ⟨_, _, _, rfl, ?_⟩; (conv => whnf))
          | (refine ⟨_, _, _, _, rfl, ?_⟩; (conv => whnf))
          | (rw [hin]; (conv => whnf))
          | (refine And.intro (fun c => ?_) (fun c => ?_) <;> (first | (exact absurd c (by decide +kernel)) | (exact absurd c (by assumption)) | (exact False.elim (c (by assumption))) | (conv => whnf)))
          | fail)
        exact this
      · have hin : t_in (nI k) (Int32.ofInt 17) (Int32.ofInt 105) = false := by rw [e17, e105]; exact t_in_f hc (by omega) (by decide) (by decide)
        have := go (nI 0) (fun q => by
          unfold t_beg
          by_cases q2 : k < 1
          · rw [if_pos q2]
          · rw [if_neg q2, if_neg (by omega), if_neg (by omega), if_neg (by omega), if_neg (by omega), if_neg (by omega)])
        clear go
        refine hG _ _ _ _ _ _ ?_
        (conv => whnf)
        repeat' (first
          | ((with_reducible refine @And.intro (vp_in _ _) _ ?_ ?_); (· (first | with_reducible assumption | ((with_reducible refine t_vin ?_); decide) | ((with_reducible refine vp_in_nI ?_ ?_) <;> first | omega | decide) | (simp (disch := omega) only [xl_n, xl_m, nI_dec, nI_sb, nI_add, pk_mul]; (with_reducible refine vp_in_nI ?_ ?_) <;> first | omega | decide))); (conv => whnf))
          | (refine And.intro (by first | with_reducible assumption | exact (show tL _ = _ from rfl) | decide) ?_; (conv => whnf))
          | ((with_reducible refine @And.intro (_ = _) _ ?_ ?_); (· rfl); (conv => whnf))
          | ((with_reducible refine @And.intro (@LE.le Nat _ _ _) _ ?_ ?_); (· (first | exact Nat.zero_le _ | exact Nat.le_of_ble_eq_true rfl | omega)); (conv => whnf))
          | ((with_reducible refine @And.intro (@LT.lt Nat _ _ _) _ ?_ ?_); (· omega); (conv => whnf))
          | ((with_reducible refine @And.intro (∃ _, _ = _) _ ?_ ?_); (· exact ⟨_, rfl⟩); (conv => whnf))
          | ((with_reducible refine @And.intro (_ ∨ _) _ ?_ ?_); (· (first | exact Or.inl rfl | exact Or.inr rfl | exact t_b01 _ | assumption)); (conv => whnf))
          | ((with_reducible refine @And.intro (¬ (_ = _)) _ ?_ ?_); (· first | assumption | (with_reducible assumption)); (conv => whnf))
          | (refine hX _ _ _ _ _ _ ?_; (conv => whnf); fail_if_success show False)
          | (rw [t_si]; simp (disch := omega) only [xl_n, xl_m, nI_dec, nI_sb, xl_0, xl_1, tW_i, t_bn0, t_bn1, Classical.not_not, t_lt, nI_add, nI_1, pk_mul, nI_clamp, t_si, nI_eq, nI_leI, nM_ne, nM_ne, xm_u2_ne, xm_u2_at, reduceIte, tK_u, tA_u, Nat.reduceEqDiff]; (conv => whnf))
          | (refine ⟨_, rfl, ?_⟩; (conv => whnf))
          | (refine ⟨_, _, rfl, ?_⟩; (conv => whnf))
          | (refine ⟨_, _, _, rfl, ?_⟩; (conv => whnf))
          | (refine ⟨_, _, _, _, rfl, ?_⟩; (conv => whnf))
          | (rw [hin]; (conv => whnf))
          | (refine And.intro (fun c => ?_) (fun c => ?_) <;> (first | (exact absurd c (by decide +kernel)) | (exact absurd c (by assumption)) | (exact False.elim (c (by assumption))) | (conv => whnf)))
          | fail)
        exact this
    · have e : k = 107 := by omega
      subst e
      have hlt : Int32.ofInt 107 ≤ nI 107 := by decide +kernel
      have := l153 0 (by omega) M o ho (hM.s fun b k q => by
        rcases q with q | q
        · exact q
        · exact absurd q (by unfold t_a14; omega))
      clear ih l153 l230 fin
      refine hG _ _ _ _ _ _ ?_
      (conv => whnf)
      repeat' (first
        | ((with_reducible refine @And.intro (vp_in _ _) _ ?_ ?_); (· (first | with_reducible assumption | ((with_reducible refine t_vin ?_); decide) | ((with_reducible refine vp_in_nI ?_ ?_) <;> first | omega | decide) | (simp (disch := omega) only [xl_n, xl_m, nI_dec, nI_sb, nI_add, pk_mul]; (with_reducible refine vp_in_nI ?_ ?_) <;> first | omega | decide))); (conv => whnf))
        | (refine And.intro (by first | with_reducible assumption | exact (show tL _ = _ from rfl) | decide) ?_; (conv => whnf))
        | ((with_reducible refine @And.intro (_ = _) _ ?_ ?_); (· rfl); (conv => whnf))
        | ((with_reducible refine @And.intro (@LE.le Nat _ _ _) _ ?_ ?_); (· (first | exact Nat.zero_le _ | exact Nat.le_of_ble_eq_true rfl | omega)); (conv => whnf))
        | ((with_reducible refine @And.intro (@LT.lt Nat _ _ _) _ ?_ ?_); (· omega); (conv => whnf))
        | ((with_reducible refine @And.intro (∃ _, _ = _) _ ?_ ?_); (· exact ⟨_, rfl⟩); (conv => whnf))
        | ((with_reducible refine @And.intro (_ ∨ _) _ ?_ ?_); (· (first | exact Or.inl rfl | exact Or.inr rfl | exact t_b01 _ | assumption)); (conv => whnf))
        | ((with_reducible refine @And.intro (¬ (_ = _)) _ ?_ ?_); (· first | assumption | (with_reducible assumption)); (conv => whnf))
        | (refine hX _ _ _ _ _ _ ?_; (conv => whnf); fail_if_success show False)
        | (rw [t_si]; simp (disch := omega) only [xl_n, xl_m, nI_dec, nI_sb, xl_0, xl_1, tW_i, t_bn0, t_bn1, Classical.not_not, t_lt, nI_add, nI_1, pk_mul, nI_clamp, t_si, nI_eq, nI_leI, nM_ne, nM_ne, xm_u2_ne, xm_u2_at, reduceIte, tK_u, tA_u, Nat.reduceEqDiff]; (conv => whnf))
        | (refine ⟨_, rfl, ?_⟩; (conv => whnf))
        | (refine ⟨_, _, rfl, ?_⟩; (conv => whnf))
        | (refine ⟨_, _, _, rfl, ?_⟩; (conv => whnf))
        | (refine ⟨_, _, _, _, rfl, ?_⟩; (conv => whnf))
        | (refine And.intro (fun c => ?_) (fun c => ?_) <;> (first | (exact absurd c (by decide +kernel)) | (exact absurd c (by assumption)) | (exact False.elim (c (by assumption))) | (conv => whnf)))
        | fail)
      exact this
  have l91 : ∀ h, h ≤ 9 → ∀ M o, (o = none ∨ ∃ z, o = some (.int z)) → t_z t_stD I (t_std F) (t_st18 F h) M → X 91 [some (.ref 0), some (.int (nI h)), o] [] (tW M) 0 0 := by
    refine t_for fun h h1 ih M o ho hM => ?_
    rcases Nat.lt_or_ge h 9 with hh | hh
    · have hlt : ¬ Int32.ofInt 9 ≤ nI h := by rw [e9]; exact nI_ge hh (by decide)
      have e17' : M 17 h = F 17 h := hr.o hM (by unfold t_stD; omega) (f_in_17 hh)
      have := ih (h + 1) (by omega) (by omega) (xm_u2 M 18 h (F 17 h)) o ho (t_z.wp (P := t_stS F) (A := fun b k => b = 18 ∧ k < h) hM (by unfold t_stD; omega) rfl (fun b k => by omega))
      rw [← e17'] at this
      clear ih l153 l230 fin l117
      refine hG _ _ _ _ _ _ ?_
      (conv => whnf)
      repeat' (first
        | ((with_reducible refine @And.intro (vp_in _ _) _ ?_ ?_); (· (first | with_reducible assumption | ((with_reducible refine t_vin ?_); decide) | ((with_reducible refine vp_in_nI ?_ ?_) <;> first | omega | decide) | (simp (disch := omega) only [xl_n, xl_m, nI_dec, nI_sb, nI_add, pk_mul]; (with_reducible refine vp_in_nI ?_ ?_) <;> first | omega | decide))); (conv => whnf))
        | (refine And.intro (by first | with_reducible assumption | exact (show tL _ = _ from rfl) | decide) ?_; (conv => whnf))
        | ((with_reducible refine @And.intro (_ = _) _ ?_ ?_); (· rfl); (conv => whnf))
        | ((with_reducible refine @And.intro (@LE.le Nat _ _ _) _ ?_ ?_); (· (first | exact Nat.zero_le _ | exact Nat.le_of_ble_eq_true rfl | omega)); (conv => whnf))
        | ((with_reducible refine @And.intro (@LT.lt Nat _ _ _) _ ?_ ?_); (· omega); (conv => whnf))
        | ((with_reducible refine @And.intro (∃ _, _ = _) _ ?_ ?_); (· exact ⟨_, rfl⟩); (conv => whnf))
        | ((with_reducible refine @And.intro (_ ∨ _) _ ?_ ?_); (· (first | exact Or.inl rfl | exact Or.inr rfl | exact t_b01 _ | assumption)); (conv => whnf))
        | ((with_reducible refine @And.intro (¬ (_ = _)) _ ?_ ?_); (· first | assumption | (with_reducible assumption)); (conv => whnf))
        | (refine hX _ _ _ _ _ _ ?_; (conv => whnf); fail_if_success show False)
        | (rw [t_si]; simp (disch := omega) only [xl_n, xl_m, nI_dec, nI_sb, xl_0, xl_1, tW_i, t_bn0, t_bn1, Classical.not_not, t_lt, nI_add, nI_1, pk_mul, nI_clamp, t_si, nI_eq, nI_leI, nM_ne, nM_ne, xm_u2_ne, xm_u2_at, reduceIte, tK_u, tA_u, Nat.reduceEqDiff]; (conv => whnf))
        | (refine ⟨_, rfl, ?_⟩; (conv => whnf))
        | (refine ⟨_, _, rfl, ?_⟩; (conv => whnf))
        | (refine ⟨_, _, _, rfl, ?_⟩; (conv => whnf))
        | (refine ⟨_, _, _, _, rfl, ?_⟩; (conv => whnf))
        | (refine And.intro (fun c => ?_) (fun c => ?_) <;> (first | (exact absurd c (by decide +kernel)) | (exact absurd c (by assumption)) | (exact False.elim (c (by assumption))) | (conv => whnf)))
        | fail)
      clear hX hG
      simp (disch := omega) only [xl_n, xl_m, nI_dec, nI_sb, xl_0, xl_1, tW_i, t_bn0, t_bn1, Classical.not_not, t_lt, nI_add, nI_1, pk_mul, nI_clamp, t_si, nI_eq, nI_leI, nM_ne, nM_ne, xm_set] at *
      exact this
    · have e : h = 9 := by omega
      subst e
      have hlt : Int32.ofInt 9 ≤ nI 9 := by decide +kernel
      have := l117 0 (by omega) M o ho (hM.s fun b k q => by
        rcases q with q | q
        · exact q
        · exact absurd q (by unfold t_a38; omega))
      clear ih l153 l230 fin l117
      refine hG _ _ _ _ _ _ ?_
      (conv => whnf)
      repeat' (first
        | ((with_reducible refine @And.intro (vp_in _ _) _ ?_ ?_); (· (first | with_reducible assumption | ((with_reducible refine t_vin ?_); decide) | ((with_reducible refine vp_in_nI ?_ ?_) <;> first | omega | decide) | (simp (disch := omega) only [xl_n, xl_m, nI_dec, nI_sb, nI_add, pk_mul]; (with_reducible refine vp_in_nI ?_ ?_) <;> first | omega | decide))); (conv => whnf))
        | (refine And.intro (by first | with_reducible assumption | exact (show tL _ = _ from rfl) | decide) ?_; (conv => whnf))
        | ((with_reducible refine @And.intro (_ = _) _ ?_ ?_); (· rfl); (conv => whnf))
        | ((with_reducible refine @And.intro (@LE.le Nat _ _ _) _ ?_ ?_); (· (first | exact Nat.zero_le _ | exact Nat.le_of_ble_eq_true rfl | omega)); (conv => whnf))
        | ((with_reducible refine @And.intro (@LT.lt Nat _ _ _) _ ?_ ?_); (· omega); (conv => whnf))
        | ((with_reducible refine @And.intro (∃ _, _ = _) _ ?_ ?_); (· exact ⟨_, rfl⟩); (conv => whnf))
        | ((with_reducible refine @And.intro (_ ∨ _) _ ?_ ?_); (· (first | exact Or.inl rfl | exact Or.inr rfl | exact t_b01 _ | assumption)); (conv => whnf))
        | ((with_reducible refine @And.intro (¬ (_ = _)) _ ?_ ?_); (· first | assumption | (with_reducible assumption)); (conv => whnf))
        | (refine hX _ _ _ _ _ _ ?_; (conv => whnf); fail_if_success show False)
        | (rw [t_si]; simp (disch := omega) only [xl_n, xl_m, nI_dec, nI_sb, xl_0, xl_1, tW_i, t_bn0, t_bn1, Classical.not_not, t_lt, nI_add, nI_1, pk_mul, nI_clamp, t_si, nI_eq, nI_leI, nM_ne, nM_ne, xm_u2_ne, xm_u2_at, reduceIte, tK_u, tA_u, Nat.reduceEqDiff]; (conv => whnf))
        | (refine ⟨_, rfl, ?_⟩; (conv => whnf))
        | (refine ⟨_, _, rfl, ?_⟩; (conv => whnf))
        | (refine ⟨_, _, _, rfl, ?_⟩; (conv => whnf))
        | (refine ⟨_, _, _, _, rfl, ?_⟩; (conv => whnf))
        | (refine And.intro (fun c => ?_) (fun c => ?_) <;> (first | (exact absurd c (by decide +kernel)) | (exact absurd c (by assumption)) | (exact False.elim (c (by assumption))) | (conv => whnf)))
        | fail)
      exact this
  have l2 : ∀ k, k ≤ 4 → ∀ M, t_z t_stD I (t_std F) (fun b j => b = 12 ∧ j < k) M → X 2 [some (.ref 0), some (.int (nI k)), none] [] (tW M) 0 0 := by
    refine t_for fun k h1 ih M hM => ?_
    rcases Nat.lt_or_ge k 4 with hk | hk
    · have hlt : ¬ Int32.ofInt 4 ≤ nI k := by rw [xl_n.2.2.2.2.1]; exact nI_ge hk (by decide)
      have e11 : M 11 k = F 11 k := hr.o hM (by unfold t_stD; omega) (f_in_12 hk)
      have := ih (k + 1) (by omega) (by omega) (xm_u2 M 12 k (F 11 k)) (hM.w (by unfold t_stD; omega) rfl (fun b k => by omega))
      rw [← e11] at this
      clear ih l153 l230 fin l117 l91
      refine hG _ _ _ _ _ _ ?_
      (conv => whnf)
      repeat' (first
        | ((with_reducible refine @And.intro (vp_in _ _) _ ?_ ?_); (· (first | with_reducible assumption | ((with_reducible refine t_vin ?_); decide) | ((with_reducible refine vp_in_nI ?_ ?_) <;> first | omega | decide) | (simp (disch := omega) only [xl_n, xl_m, nI_dec, nI_sb, nI_add, pk_mul]; (with_reducible refine vp_in_nI ?_ ?_) <;> first | omega | decide))); (conv => whnf))
        | (refine And.intro (by first | with_reducible assumption | exact (show tL _ = _ from rfl) | decide) ?_; (conv => whnf))
        | ((with_reducible refine @And.intro (_ = _) _ ?_ ?_); (· rfl); (conv => whnf))
        | ((with_reducible refine @And.intro (@LE.le Nat _ _ _) _ ?_ ?_); (· (first | exact Nat.zero_le _ | exact Nat.le_of_ble_eq_true rfl | omega)); (conv => whnf))
        | ((with_reducible refine @And.intro (@LT.lt Nat _ _ _) _ ?_ ?_); (· omega); (conv => whnf))
        | ((with_reducible refine @And.intro (∃ _, _ = _) _ ?_ ?_); (· exact ⟨_, rfl⟩); (conv => whnf))
        | ((with_reducible refine @And.intro (_ ∨ _) _ ?_ ?_); (· (first | exact Or.inl rfl | exact Or.inr rfl | exact t_b01 _ | assumption)); (conv => whnf))
        | ((with_reducible refine @And.intro (¬ (_ = _)) _ ?_ ?_); (· first | assumption | (with_reducible assumption)); (conv => whnf))
        | (refine hX _ _ _ _ _ _ ?_; (conv => whnf); fail_if_success show False)
        | (rw [t_si]; simp (disch := omega) only [xl_n, xl_m, nI_dec, nI_sb, xl_0, xl_1, tW_i, t_bn0, t_bn1, Classical.not_not, t_lt, nI_add, nI_1, pk_mul, nI_clamp, t_si, nI_eq, nI_leI, nM_ne, nM_ne, xm_u2_ne, xm_u2_at, reduceIte, tK_u, tA_u, Nat.reduceEqDiff]; (conv => whnf))
        | (refine ⟨_, rfl, ?_⟩; (conv => whnf))
        | (refine ⟨_, _, rfl, ?_⟩; (conv => whnf))
        | (refine ⟨_, _, _, rfl, ?_⟩; (conv => whnf))
        | (refine ⟨_, _, _, _, rfl, ?_⟩; (conv => whnf))
        | (refine And.intro (fun c => ?_) (fun c => ?_) <;> (first | (exact absurd c (by decide +kernel)) | (exact absurd c (by assumption)) | (exact False.elim (c (by assumption))) | (conv => whnf)))
        | fail)
      clear hX hG
      simp (disch := omega) only [xl_n, xl_m, nI_dec, nI_sb, xl_0, xl_1, tW_i, t_bn0, t_bn1, Classical.not_not, t_lt, nI_add, nI_1, pk_mul, nI_clamp, t_si, nI_eq, nI_leI, nM_ne, nM_ne, xm_set] at *
      exact this
    · have e : k = 4 := by omega
      subst e
      have hlt : Int32.ofInt 4 ≤ nI 4 := by decide +kernel
      clear ih l153 l230 fin l117
      have e12 : (tW M).2.1 12 (Int32.ofInt 0).toNatClampNeg = nI (f_h F) := (hM.2 12 0 ⟨rfl, by decide⟩).trans hF0
      refine hG _ _ _ _ _ _ ?_
      (conv => whnf)
      repeat' (first
        | (refine ⟨19, 20, f_h F, congrArg (fun x => [Value.ref 19, Value.ref 20, Value.int x]) e12, 100, 110, 3, 9, 9, hF9, by decide, hF9, by decide, by decide, rfl, rfl, fun k hk => ⟨rfl, t_l100 (I := I) (by omega), rfl, t_l110 (I := I) (by omega)⟩, by omega, ?_⟩; (conv => whnf))
        | ((with_reducible refine @And.intro (vp_in _ _) _ ?_ ?_); (· (first | with_reducible assumption | ((with_reducible refine t_vin ?_); decide) | ((with_reducible refine vp_in_nI ?_ ?_) <;> first | omega | decide) | (simp (disch := omega) only [xl_n, xl_m, nI_dec, nI_sb, nI_add, pk_mul]; (with_reducible refine vp_in_nI ?_ ?_) <;> first | omega | decide))); (conv => whnf))
        | (refine And.intro (by first | with_reducible assumption | exact (show tL _ = _ from rfl) | decide) ?_; (conv => whnf))
        | ((with_reducible refine @And.intro (_ = _) _ ?_ ?_); (· rfl); (conv => whnf))
        | ((with_reducible refine @And.intro (@LE.le Nat _ _ _) _ ?_ ?_); (· (first | exact Nat.zero_le _ | exact Nat.le_of_ble_eq_true rfl | omega)); (conv => whnf))
        | ((with_reducible refine @And.intro (@LT.lt Nat _ _ _) _ ?_ ?_); (· omega); (conv => whnf))
        | ((with_reducible refine @And.intro (∃ _, _ = _) _ ?_ ?_); (· exact ⟨_, rfl⟩); (conv => whnf))
        | ((with_reducible refine @And.intro (_ ∨ _) _ ?_ ?_); (· (first | exact Or.inl rfl | exact Or.inr rfl | exact t_b01 _ | assumption)); (conv => whnf))
        | ((with_reducible refine @And.intro (¬ (_ = _)) _ ?_ ?_); (· first | assumption | (with_reducible assumption)); (conv => whnf))
        | (refine hX _ _ _ _ _ _ ?_; (conv => whnf); fail_if_success show False)
        | (rw [t_si]; (conv => whnf))
        | (refine ⟨_, rfl, ?_⟩; (conv => whnf))
        | (refine ⟨_, _, rfl, ?_⟩; (conv => whnf))
        | (refine ⟨_, _, _, rfl, ?_⟩; (conv => whnf))
        | (refine ⟨_, _, _, _, rfl, ?_⟩; (conv => whnf))
        | (refine And.intro (fun c => ?_) (fun c => ?_) <;> (first | (exact absurd c (by decide +kernel)) | (exact absurd c (by assumption)) | (exact False.elim (c (by assumption))) | (conv => whnf)))
        | fail)
      intro M1 hJ
      (conv => whnf)
      replace hM : t_z t_stD I (t_std F) (fun b k => ((b = 12 ∧ k < 4) ∨ (110 ≤ b ∧ b < 110 + f_h F ∧ k < 3))) M1 := hM.t hJ (fun b h => by unfold t_stD; omega) (fun b k h => by
        rcases h with h | h
        · exact Or.inl ⟨h, by omega⟩
        · obtain ⟨j, rfl⟩ : ∃ j, b = 110 + j := ⟨b - 110, by omega⟩
          right
          refine ⟨⟨⟨by omega, by omega⟩, h.2.2⟩, ?_⟩
          rw [t_std_r (by omega), show 110 + j - 10 = 100 + j by omega]
          show M (100 + (110 + j - 110)) k = _
          rw [show 110 + j - 110 = j by omega]
          exact hr.o hM (by unfold t_stD; omega) (f_in_h (by omega) h.2.2))
      clear hJ
      clear e12
      have e12 : (tW M1).2.1 12 (Int32.ofInt 1).toNatClampNeg = nI (f_p F) := (hM.2 12 1 (Or.inl (⟨rfl, by decide⟩))).trans hF1
      repeat' (first
        | (refine ⟨21, 22, f_p F, congrArg (fun x => [Value.ref 21, Value.ref 22, Value.int x]) e12, 120, 130, 3, 8, 8, hF8, by decide, hF8, by decide, by decide, rfl, rfl, fun k hk => ⟨rfl, t_l120 (I := I) (by omega), rfl, t_l130 (I := I) (by omega)⟩, by omega, ?_⟩; (conv => whnf))
        | ((with_reducible refine @And.intro (vp_in _ _) _ ?_ ?_); (· (first | with_reducible assumption | ((with_reducible refine t_vin ?_); decide) | ((with_reducible refine vp_in_nI ?_ ?_) <;> first | omega | decide) | (simp (disch := omega) only [xl_n, xl_m, nI_dec, nI_sb, nI_add, pk_mul]; (with_reducible refine vp_in_nI ?_ ?_) <;> first | omega | decide))); (conv => whnf))
        | (refine And.intro (by first | with_reducible assumption | exact (show tL _ = _ from rfl) | decide) ?_; (conv => whnf))
        | ((with_reducible refine @And.intro (_ = _) _ ?_ ?_); (· rfl); (conv => whnf))
        | ((with_reducible refine @And.intro (@LE.le Nat _ _ _) _ ?_ ?_); (· (first | exact Nat.zero_le _ | exact Nat.le_of_ble_eq_true rfl | omega)); (conv => whnf))
        | ((with_reducible refine @And.intro (@LT.lt Nat _ _ _) _ ?_ ?_); (· omega); (conv => whnf))
        | ((with_reducible refine @And.intro (∃ _, _ = _) _ ?_ ?_); (· exact ⟨_, rfl⟩); (conv => whnf))
        | ((with_reducible refine @And.intro (_ ∨ _) _ ?_ ?_); (· (first | exact Or.inl rfl | exact Or.inr rfl | exact t_b01 _ | assumption)); (conv => whnf))
        | ((with_reducible refine @And.intro (¬ (_ = _)) _ ?_ ?_); (· first | assumption | (with_reducible assumption)); (conv => whnf))
        | (refine hX _ _ _ _ _ _ ?_; (conv => whnf); fail_if_success show False)
        | (rw [t_si]; (conv => whnf))
        | (refine ⟨_, rfl, ?_⟩; (conv => whnf))
        | (refine ⟨_, _, rfl, ?_⟩; (conv => whnf))
        | (refine ⟨_, _, _, rfl, ?_⟩; (conv => whnf))
        | (refine ⟨_, _, _, _, rfl, ?_⟩; (conv => whnf))
        | (refine And.intro (fun c => ?_) (fun c => ?_) <;> (first | (exact absurd c (by decide +kernel)) | (exact absurd c (by assumption)) | (exact False.elim (c (by assumption))) | (conv => whnf)))
        | fail)
      intro M2 hJ
      (conv => whnf)
      replace hM : t_z t_stD I (t_std F) (fun b k => (((b = 12 ∧ k < 4) ∨ (110 ≤ b ∧ b < 110 + f_h F ∧ k < 3)) ∨ (130 ≤ b ∧ b < 130 + f_p F ∧ k < 3))) M2 := hM.t hJ (fun b h => by unfold t_stD; omega) (fun b k h => by
        rcases h with h | h
        · exact Or.inl ⟨h, by omega⟩
        · obtain ⟨j, rfl⟩ : ∃ j, b = 130 + j := ⟨b - 130, by omega⟩
          right
          refine ⟨⟨⟨by omega, by omega⟩, h.2.2⟩, ?_⟩
          rw [t_std_r (by omega), show 130 + j - 10 = 120 + j by omega]
          show M1 (120 + (130 + j - 130)) k = _
          rw [show 130 + j - 130 = j by omega]
          exact hr.o hM (by unfold t_stD; omega) (f_in_p (by omega) h.2.2))
      clear hJ
      clear e12
      have e12 : (tW M2).2.1 12 (Int32.ofInt 2).toNatClampNeg = nI (f_a F) := (hM.2 12 2 (Or.inl (Or.inl (⟨rfl, by decide⟩)))).trans hF2
      repeat' (first
        | (refine ⟨23, 24, f_a F, congrArg (fun x => [Value.ref 23, Value.ref 24, Value.int x]) e12, 140, 150, 8, 6, 6, hF6, by decide, hF6, by decide, by decide, rfl, rfl, fun k hk => ⟨rfl, t_l140 (I := I) (by omega), rfl, t_l150 (I := I) (by omega)⟩, by omega, ?_⟩; (conv => whnf))
        | ((with_reducible refine @And.intro (vp_in _ _) _ ?_ ?_); (· (first | with_reducible assumption | ((with_reducible refine t_vin ?_); decide) | ((with_reducible refine vp_in_nI ?_ ?_) <;> first | omega | decide) | (simp (disch := omega) only [xl_n, xl_m, nI_dec, nI_sb, nI_add, pk_mul]; (with_reducible refine vp_in_nI ?_ ?_) <;> first | omega | decide))); (conv => whnf))
        | (refine And.intro (by first | with_reducible assumption | exact (show tL _ = _ from rfl) | decide) ?_; (conv => whnf))
        | ((with_reducible refine @And.intro (_ = _) _ ?_ ?_); (· rfl); (conv => whnf))
        | ((with_reducible refine @And.intro (@LE.le Nat _ _ _) _ ?_ ?_); (· (first | exact Nat.zero_le _ | exact Nat.le_of_ble_eq_true rfl | omega)); (conv => whnf))
        | ((with_reducible refine @And.intro (@LT.lt Nat _ _ _) _ ?_ ?_); (· omega); (conv => whnf))
        | ((with_reducible refine @And.intro (∃ _, _ = _) _ ?_ ?_); (· exact ⟨_, rfl⟩); (conv => whnf))
        | ((with_reducible refine @And.intro (_ ∨ _) _ ?_ ?_); (· (first | exact Or.inl rfl | exact Or.inr rfl | exact t_b01 _ | assumption)); (conv => whnf))
        | ((with_reducible refine @And.intro (¬ (_ = _)) _ ?_ ?_); (· first | assumption | (with_reducible assumption)); (conv => whnf))
        | (refine hX _ _ _ _ _ _ ?_; (conv => whnf); fail_if_success show False)
        | (rw [t_si]; (conv => whnf))
        | (refine ⟨_, rfl, ?_⟩; (conv => whnf))
        | (refine ⟨_, _, rfl, ?_⟩; (conv => whnf))
        | (refine ⟨_, _, _, rfl, ?_⟩; (conv => whnf))
        | (refine ⟨_, _, _, _, rfl, ?_⟩; (conv => whnf))
        | (refine And.intro (fun c => ?_) (fun c => ?_) <;> (first | (exact absurd c (by decide +kernel)) | (exact absurd c (by assumption)) | (exact False.elim (c (by assumption))) | (conv => whnf)))
        | fail)
      intro M3 hJ
      (conv => whnf)
      replace hM : t_z t_stD I (t_std F) (fun b k => ((((b = 12 ∧ k < 4) ∨ (110 ≤ b ∧ b < 110 + f_h F ∧ k < 3)) ∨ (130 ≤ b ∧ b < 130 + f_p F ∧ k < 3)) ∨ (150 ≤ b ∧ b < 150 + f_a F ∧ k < 2 + f_m F (b - 150)))) M3 := hM.t hJ (fun b h => by unfold t_stD; omega) (fun b k h => by
        rcases h with h | h
        · exact Or.inl ⟨h, by omega⟩
        · obtain ⟨j, rfl⟩ : ∃ j, b = 150 + j := ⟨b - 150, by omega⟩
          right
          refine ⟨⟨⟨by omega, by omega⟩, (by have := hFm j (by omega); have h2 := h.2.2; rw [show 150 + j - 150 = j by omega] at h2; omega)⟩, ?_⟩
          rw [t_std_r (by omega), show 150 + j - 10 = 140 + j by omega]
          show M2 (140 + (150 + j - 150)) k = _
          rw [show 150 + j - 150 = j by omega]
          exact hr.o hM (by unfold t_stD; omega) (f_in_a (by omega) (by rw [show 150 + j - 150 = j by omega] at h; exact h.2.2)))
      clear hJ
      clear e12
      repeat' (first
        | (refine ⟨25, 26, 9, congrArg (fun x => [Value.ref 25, Value.ref 26, Value.int x]) e9, 160, 170, 9, 9, 9, (by decide), by decide, (by decide), by decide, by decide, rfl, rfl, fun k hk => ⟨rfl, t_l160 (I := I) (by omega), rfl, t_l170 (I := I) (by omega)⟩, by omega, ?_⟩; (conv => whnf))
        | ((with_reducible refine @And.intro (vp_in _ _) _ ?_ ?_); (· (first | with_reducible assumption | ((with_reducible refine t_vin ?_); decide) | ((with_reducible refine vp_in_nI ?_ ?_) <;> first | omega | decide) | (simp (disch := omega) only [xl_n, xl_m, nI_dec, nI_sb, nI_add, pk_mul]; (with_reducible refine vp_in_nI ?_ ?_) <;> first | omega | decide))); (conv => whnf))
        | (refine And.intro (by first | with_reducible assumption | exact (show tL _ = _ from rfl) | decide) ?_; (conv => whnf))
        | ((with_reducible refine @And.intro (_ = _) _ ?_ ?_); (· rfl); (conv => whnf))
        | ((with_reducible refine @And.intro (@LE.le Nat _ _ _) _ ?_ ?_); (· (first | exact Nat.zero_le _ | exact Nat.le_of_ble_eq_true rfl | omega)); (conv => whnf))
        | ((with_reducible refine @And.intro (@LT.lt Nat _ _ _) _ ?_ ?_); (· omega); (conv => whnf))
        | ((with_reducible refine @And.intro (∃ _, _ = _) _ ?_ ?_); (· exact ⟨_, rfl⟩); (conv => whnf))
        | ((with_reducible refine @And.intro (_ ∨ _) _ ?_ ?_); (· (first | exact Or.inl rfl | exact Or.inr rfl | exact t_b01 _ | assumption)); (conv => whnf))
        | ((with_reducible refine @And.intro (¬ (_ = _)) _ ?_ ?_); (· first | assumption | (with_reducible assumption)); (conv => whnf))
        | (refine hX _ _ _ _ _ _ ?_; (conv => whnf); fail_if_success show False)
        | (rw [t_si]; (conv => whnf))
        | (refine ⟨_, rfl, ?_⟩; (conv => whnf))
        | (refine ⟨_, _, rfl, ?_⟩; (conv => whnf))
        | (refine ⟨_, _, _, rfl, ?_⟩; (conv => whnf))
        | (refine ⟨_, _, _, _, rfl, ?_⟩; (conv => whnf))
        | (refine And.intro (fun c => ?_) (fun c => ?_) <;> (first | (exact absurd c (by decide +kernel)) | (exact absurd c (by assumption)) | (exact False.elim (c (by assumption))) | (conv => whnf)))
        | fail)
      intro M4 hJ
      (conv => whnf)
      replace hM : t_z t_stD I (t_std F) (fun b k => (((((b = 12 ∧ k < 4) ∨ (110 ≤ b ∧ b < 110 + f_h F ∧ k < 3)) ∨ (130 ≤ b ∧ b < 130 + f_p F ∧ k < 3)) ∨ (150 ≤ b ∧ b < 150 + f_a F ∧ k < 2 + f_m F (b - 150))) ∨ (170 ≤ b ∧ b < 179 ∧ k < 9))) M4 := hM.t hJ (fun b h => by unfold t_stD; omega) (fun b k h => by
        rcases h with h | h
        · exact Or.inl ⟨h, by omega⟩
        · obtain ⟨j, rfl⟩ : ∃ j, b = 170 + j := ⟨b - 170, by omega⟩
          right
          refine ⟨⟨⟨by omega, by omega⟩, h.2.2⟩, ?_⟩
          rw [t_std_r (by omega), show 170 + j - 10 = 160 + j by omega]
          show M3 (160 + (170 + j - 170)) k = _
          rw [show 170 + j - 170 = j by omega]
          exact hr.o hM (by unfold t_stD; omega) (f_in_o (by omega) h.2.2))
      clear hJ
      have := l91 0 (by omega) M4 none (Or.inl rfl) (hM.s fun b k q => by
        rcases q with q | q
        · rcases q with q | q | q | q | q
          · exact Or.inl (Or.inl (Or.inl (Or.inl q)))
          · exact Or.inl (Or.inl (Or.inl (Or.inr q)))
          · exact Or.inl (Or.inl (Or.inr q))
          · exact Or.inl (Or.inr q)
          · exact Or.inr q
        · omega)
      clear l91
      repeat' (first
        | ((with_reducible refine @And.intro (vp_in _ _) _ ?_ ?_); (· (first | with_reducible assumption | ((with_reducible refine t_vin ?_); decide) | ((with_reducible refine vp_in_nI ?_ ?_) <;> first | omega | decide) | (simp (disch := omega) only [xl_n, xl_m, nI_dec, nI_sb, nI_add, pk_mul]; (with_reducible refine vp_in_nI ?_ ?_) <;> first | omega | decide))); (conv => whnf))
        | (refine And.intro (by first | with_reducible assumption | exact (show tL _ = _ from rfl) | decide) ?_; (conv => whnf))
        | ((with_reducible refine @And.intro (_ = _) _ ?_ ?_); (· rfl); (conv => whnf))
        | ((with_reducible refine @And.intro (@LE.le Nat _ _ _) _ ?_ ?_); (· (first | exact Nat.zero_le _ | exact Nat.le_of_ble_eq_true rfl | omega)); (conv => whnf))
        | ((with_reducible refine @And.intro (@LT.lt Nat _ _ _) _ ?_ ?_); (· omega); (conv => whnf))
        | ((with_reducible refine @And.intro (∃ _, _ = _) _ ?_ ?_); (· exact ⟨_, rfl⟩); (conv => whnf))
        | ((with_reducible refine @And.intro (_ ∨ _) _ ?_ ?_); (· (first | exact Or.inl rfl | exact Or.inr rfl | exact t_b01 _ | assumption)); (conv => whnf))
        | ((with_reducible refine @And.intro (¬ (_ = _)) _ ?_ ?_); (· first | assumption | (with_reducible assumption)); (conv => whnf))
        | (refine hX _ _ _ _ _ _ ?_; (conv => whnf); fail_if_success show False)
        | (rw [t_si]; simp (disch := omega) only [xl_n, xl_m, nI_dec, nI_sb, xl_0, xl_1, tW_i, t_bn0, t_bn1, Classical.not_not, t_lt, nI_add, nI_1, pk_mul, nI_clamp, t_si, nI_eq, nI_leI, nM_ne, nM_ne, xm_u2_ne, xm_u2_at, reduceIte, tK_u, tA_u, Nat.reduceEqDiff]; (conv => whnf))
        | (refine ⟨_, rfl, ?_⟩; (conv => whnf))
        | (refine ⟨_, _, rfl, ?_⟩; (conv => whnf))
        | (refine ⟨_, _, _, rfl, ?_⟩; (conv => whnf))
        | (refine ⟨_, _, _, _, rfl, ?_⟩; (conv => whnf))
        | (refine And.intro (fun c => ?_) (fun c => ?_) <;> (first | (exact absurd c (by decide +kernel)) | (exact absurd c (by assumption)) | (exact False.elim (c (by assumption))) | (conv => whnf)))
        | fail)
      exact this
  have := l2 0 (by omega) I ⟨fun _ _ => rfl, fun b k q => by omega⟩
  clear l153 l230 fin l117 l91 l2
  refine ⟨rfl, ?_⟩
  repeat' (first
    | ((with_reducible refine @And.intro (vp_in _ _) _ ?_ ?_); (· (first | with_reducible assumption | ((with_reducible refine t_vin ?_); decide) | ((with_reducible refine vp_in_nI ?_ ?_) <;> first | omega | decide) | (simp (disch := omega) only [xl_n, xl_m, nI_dec, nI_sb, nI_add, pk_mul]; (with_reducible refine vp_in_nI ?_ ?_) <;> first | omega | decide))); (conv => whnf))
    | (refine And.intro (by first | with_reducible assumption | exact (show tL _ = _ from rfl) | decide) ?_; (conv => whnf))
    | ((with_reducible refine @And.intro (_ = _) _ ?_ ?_); (· rfl); (conv => whnf))
    | ((with_reducible refine @And.intro (@LE.le Nat _ _ _) _ ?_ ?_); (· (first | exact Nat.zero_le _ | exact Nat.le_of_ble_eq_true rfl | omega)); (conv => whnf))
    | ((with_reducible refine @And.intro (@LT.lt Nat _ _ _) _ ?_ ?_); (· omega); (conv => whnf))
    | ((with_reducible refine @And.intro (∃ _, _ = _) _ ?_ ?_); (· exact ⟨_, rfl⟩); (conv => whnf))
    | ((with_reducible refine @And.intro (_ ∨ _) _ ?_ ?_); (· (first | exact Or.inl rfl | exact Or.inr rfl | exact t_b01 _ | assumption)); (conv => whnf))
    | ((with_reducible refine @And.intro (¬ (_ = _)) _ ?_ ?_); (· first | assumption | (with_reducible assumption)); (conv => whnf))
    | (refine hX _ _ _ _ _ _ ?_; (conv => whnf); fail_if_success show False)
    | (rw [t_si]; (conv => whnf))
    | (refine ⟨_, rfl, ?_⟩; (conv => whnf))
    | (refine ⟨_, _, rfl, ?_⟩; (conv => whnf))
    | (refine ⟨_, _, _, rfl, ?_⟩; (conv => whnf))
    | (refine ⟨_, _, _, _, rfl, ?_⟩; (conv => whnf))
    | (refine And.intro (fun c => ?_) (fun c => ?_) <;> (first | (exact absurd c (by decide +kernel)) | (conv => whnf)))
    | fail)
  exact this
theorem ct_X11_stands {Iv : xI} (hI : xm_good Iv) : xm_Ct Iv yX11_stands (ws_ yX11_stands cX11_stands 3 none) 3 0 0 S_X11_stands := xm_enter (rt := 2) (init := false) (by decide +kernel) rfl (fun h => by cases h) (Or.inr (Or.inr (Or.inl ⟨rfl, rfl⟩))) (oX11_stands hI) body_X11_stands
theorem cv_X11_stands {Iv : xI} {own : String} {cc : ByteArray} {fr pc idx : Nat} (hI : xm_good Iv) (hdg : decode cc pc = .ok (.invokevirtual idx, 3)) (hl : xm_ml own idx yX11_stands) (hfr : 3 < fr) : xm_CallOK Iv own cc fr pc (pc + 3) 1 0 0 (xm_this 8 S_X11_stands) := xm_callV 8 hI (ct_X11_stands hI) hdg hl q1937 qs51 q145 q1938 rfl rfl (by decide +kernel) hfr (by decide)
