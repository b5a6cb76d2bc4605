/-! ===== the reference: a clause ===== -/
set_option maxRecDepth 100000
theorem p_kind_c (L : List Nat) : p_kind L = nM ∨ ∃ j, j < 8 ∧ p_kind L = nI j := by
  unfold p_kind
  repeat' split
  · exact Or.inr ⟨0, by decide, rfl⟩
  · exact Or.inr ⟨1, by decide, rfl⟩
  · exact Or.inr ⟨2, by decide, rfl⟩
  · exact Or.inr ⟨3, by decide, rfl⟩
  · exact Or.inr ⟨4, by decide, rfl⟩
  · exact Or.inr ⟨5, by decide, rfl⟩
  · exact Or.inr ⟨6, by decide, rfl⟩
  · exact Or.inr ⟨7, by decide, rfl⟩
  · exact Or.inl rfl
/-- a puppet told -/
def p_pupt (f : Nat → Int32) (n : Nat) (F : tI) (r : Nat) (k : Nat) : pR tI :=
  p_bd (p_number f n (nI 0) (nI 15) k) fun v0 k => p_bd (p_number f n (nI 1) (nI 2) k) fun v1 k => p_bd (p_number f n (nI 0) (nI 30) k) fun v2 k => .inr (xm_u2 (xm_u2 (xm_u2 F r 0 v0) r 1 v1) r 2 v2, k)
def p_silent (f : Nat → Int32) (n : Nat) (F : tI) (k : Nat) : pR tI :=
  p_bd (p_number f n (nI 0) (F 11 0 - nI 1) k) fun h k => p_bd (p_other f n F h k) fun g k => .inr (xm_u2 (xm_u2 F 17 h.toNatClampNeg (F 17 h.toNatClampNeg ||| t_bit g.toNatClampNeg)) 17 g.toNatClampNeg (xm_u2 F 17 h.toNatClampNeg (F 17 h.toNatClampNeg ||| t_bit g.toNatClampNeg) 17 g.toNatClampNeg ||| t_bit h.toNatClampNeg), k)
def p_owes (f : Nat → Int32) (n : Nat) (F : tI) (k : Nat) : pR tI :=
  p_bd (p_number f n (nI 0) (F 11 0 - nI 1) k) fun h k => p_bd (p_other f n F h k) fun g k => p_bd (p_number f n (nI 1) (nI 99) k) fun v k => .inr (xm_u2 F (160 + h.toNatClampNeg) g.toNatClampNeg (t_less (nI 999) (F (160 + h.toNatClampNeg) g.toNatClampNeg + v)), k)
theorem p_other_eq {f : Nat → Int32} {n : Nat} {J F : tI} (h : J 11 0 = F 11 0) (b : Int32) : p_other f n J b = p_other f n F b := by
  unfold p_other
  rw [h]
theorem p_other_n {f : Nat → Int32} {n k k' : Nat} {F : tI} {b g : Int32} (hF : t_fok F) (hk : k ≤ n) (h : p_other f n F b k = .inr (g, k')) : ∃ j, g = nI j ∧ j < f_h F := by
  unfold p_other at h
  rw [hF.1] at h
  obtain ⟨v, k0, h1, h⟩ := p_bd_r h
  split at h
  · cases h
  · have e := congrArg Prod.fst (Sum.inr.inj h)
    have e : v = g := e
    subst e
    exact p_number_n (by have := hF.2.1; omega) hk h1
def p_body (f : Nat → Int32) (n : Nat) (F : tI) (j k : Nat) : pR tI := match j with
  | 0 => p_bd (p_born f n F (100 + f_h F) k) fun F k => .inr (p_more F 0, k)
  | 1 => p_bd (p_pupt f n F (120 + f_p F) k) fun F k => .inr (p_more F 1, k)
  | 2 => p_bd (p_act f n F (140 + f_a F) k) fun F k => .inr (p_more F 2, k)
  | 3 => p_works f n F k
  | 4 => p_quarrel f n F k
  | 5 => p_silent f n F k
  | 6 => p_owes f n F k
  | _ => p_bd (p_number f n (nI 0) (nI 9) k) fun q k => .inr (xm_u2 F 11 3 q, k)
def p_sg (f : Nat → Int32) (n : Nat) (F : tI) (k : Nat) : pR tI := match p_sign f n (nI 59) k with
  | .inl e => .inl e
  | .inr k => .inr (F, k)
/-- no more of these -/
def p_full (F : tI) (j : Nat) : Bool := decide (F 0 7 = nI 60) || ((decide (j = 0) && decide (F 11 0 = nI 9)) || ((decide (j = 1) && decide (F 11 1 = nI 8)) || (decide (j = 2) && decide (F 11 2 = nI 6))))
theorem p_full_0 {F : tI} : p_full F 0 = true ↔ (F 0 7 = nI 60 ∨ F 11 0 = nI 9) := by simp [p_full]
theorem p_full_1 {F : tI} : p_full F 1 = true ↔ (F 0 7 = nI 60 ∨ F 11 1 = nI 8) := by simp [p_full]
theorem p_full_2 {F : tI} : p_full F 2 = true ↔ (F 0 7 = nI 60 ∨ F 11 2 = nI 6) := by simp [p_full]
theorem p_full_3 {F : tI} : p_full F 3 = true ↔ F 0 7 = nI 60 := by simp [p_full]
theorem p_full_4 {F : tI} : p_full F 4 = true ↔ F 0 7 = nI 60 := by simp [p_full]
theorem p_full_5 {F : tI} : p_full F 5 = true ↔ F 0 7 = nI 60 := by simp [p_full]
theorem p_full_6 {F : tI} : p_full F 6 = true ↔ F 0 7 = nI 60 := by simp [p_full]
theorem p_full_7 {F : tI} : p_full F 7 = true ↔ F 0 7 = nI 60 := by simp [p_full]
def p_clause (f : Nat → Int32) (n : Nat) (F : tI) (k : Nat) : pR tI :=
  if p_kind (p_ls f n (p_bl f n k)) = nM then .inl (nI 1, p_bl f n k) else
  if p_full F (p_kind (p_ls f n (p_bl f n k))).toNatClampNeg = true then .inl (nI 3, p_bl f n k) else
  p_bd (p_body f n (xm_u2 F 0 7 (F 0 7 + nI 1)) (p_kind (p_ls f n (p_bl f n k))).toNatClampNeg (p_le f n (p_bl f n k))) fun F k => p_sg f n F k
theorem nM_j {j : Nat} (hj : j < 8) : ¬ nI j = nM := by
  have : ∀ j, j < 8 → ¬ nI j = nM := by decide +kernel
  exact this j hj
theorem t_rf.u7 {I : tI} {v : Int32} : t_rf I (xm_u2 I 0 7 v) := ⟨fun b h _ => funext fun j => xm_u2_ne h j, fun j _ _ _ h => by rw [xm_u2_at, if_neg h]⟩
abbrev bX11_clause_0 : List xE := [(.aload_n 0, 1, 0, 0, 0), (.invokevirtual 206, 4, 0, 0, 9), (.istore_n 1, 5, 0, 0, 0), (.iload_n 1, 6, 0, 0, 0), (.iconst (-1), 7, 0, 0, 0), (.if_icmp .ne 15, 10, 0, 22, 0), (.aload_n 0, 11, 0, 0, 0), (.iconst 1, 12, 0, 0, 0), (.aload_n 0, 13, 0, 0, 0), (.getfield 143, 16, 8, 4, 0), (.invokevirtual 163, 19, 0, 1, 9), (.goto 68, 22, 0, 87, 0)]
abbrev bX11_clause_22 : List xE := [(.aload_n 0, 23, 0, 0, 0), (.getfield 196, 26, 8, 7, 0), (.bipush 60, 28, 0, 0, 0), (.if_icmp .eq 50, 31, 0, 78, 0), (.iload_n 1, 32, 0, 0, 0), (.ifCond .ne 14, 35, 0, 46, 0), (.aload_n 0, 36, 0, 0, 0), (.getfield 20, 39, 8, 11, 1), (.iconst 0, 40, 0, 0, 0), (.iaload, 41, 0, 0, 0), (.bipush 9, 43, 0, 0, 0), (.if_icmp .eq 35, 46, 0, 78, 0)]
abbrev bX11_clause_46 : List xE := [(.iload_n 1, 47, 0, 0, 0), (.iconst 1, 48, 0, 0, 0), (.if_icmp .ne 14, 51, 0, 62, 0), (.aload_n 0, 52, 0, 0, 0), (.getfield 20, 55, 8, 11, 1), (.iconst 1, 56, 0, 0, 0), (.iaload, 57, 0, 0, 0), (.bipush 8, 59, 0, 0, 0), (.if_icmp .eq 19, 62, 0, 78, 0)]
abbrev bX11_clause_62 : List xE := [(.iload_n 1, 63, 0, 0, 0), (.iconst 2, 64, 0, 0, 0), (.if_icmp .ne 23, 67, 0, 87, 0), (.aload_n 0, 68, 0, 0, 0), (.getfield 20, 71, 8, 11, 1), (.iconst 2, 72, 0, 0, 0), (.iaload, 73, 0, 0, 0), (.bipush 6, 75, 0, 0, 0), (.if_icmp .ne 12, 78, 0, 87, 0)]
abbrev bX11_clause_78 : List xE := [(.aload_n 0, 79, 0, 0, 0), (.iconst 3, 80, 0, 0, 0), (.aload_n 0, 81, 0, 0, 0), (.getfield 143, 84, 8, 4, 0), (.invokevirtual 163, 87, 0, 1, 9)]
abbrev bX11_clause_87 : List xE := [(.aload_n 0, 88, 0, 0, 0), (.getfield 150, 91, 8, 5, 0), (.ifCond .eq 4, 94, 0, 95, 0), (.return_, 95, 0, 0, 0)]
abbrev bX11_clause_95 : List xE := [(.aload_n 0, 96, 0, 0, 0), (.invokevirtual 193, 99, 0, 2, 9), (.aload_n 0, 100, 0, 0, 0), (.dup, 101, 0, 0, 0), (.getfield 196, 104, 8, 7, 0), (.iconst 1, 105, 0, 0, 0), (.iadd, 106, 0, 0, 0), (.putfield 196, 109, 8, 7, 0), (.iload_n 1, 110, 0, 0, 0), (.tableswitch 239 0 6 #[42, 60, 104, 122, 129, 136, 184], 152, 0, 0, 0)]
abbrev bX11_clause_152 : List xE := [(.aload_n 0, 153, 0, 0, 0), (.aload_n 0, 154, 0, 0, 0), (.getfield 46, 157, 8, 19, 1), (.aload_n 0, 158, 0, 0, 0), (.getfield 20, 161, 8, 11, 1), (.iconst 0, 162, 0, 0, 0), (.iaload, 163, 0, 0, 0), (.aaload, 164, 0, 0, 0), (.invokevirtual 210, 167, 0, 3, 9), (.goto 207, 170, 0, 374, 0)]
abbrev bX11_clause_170 : List xE := [(.aload_n 0, 171, 0, 0, 0), (.getfield 52, 174, 8, 21, 1), (.aload_n 0, 175, 0, 0, 0), (.getfield 20, 178, 8, 11, 1), (.iconst 1, 179, 0, 0, 0), (.iaload, 180, 0, 0, 0), (.aaload, 181, 0, 0, 0), (.astore_n 2, 182, 0, 0, 0), (.aload_n 2, 183, 0, 0, 0), (.iconst 0, 184, 0, 0, 0), (.aload_n 0, 185, 0, 0, 0), (.iconst 0, 186, 0, 0, 0), (.bipush 15, 188, 0, 0, 0), (.invokevirtual 202, 191, 0, 4, 9), (.iastore, 192, 0, 0, 0), (.aload_n 2, 193, 0, 0, 0), (.iconst 1, 194, 0, 0, 0), (.aload_n 0, 195, 0, 0, 0), (.iconst 1, 196, 0, 0, 0), (.iconst 2, 197, 0, 0, 0), (.invokevirtual 202, 200, 0, 4, 9), (.iastore, 201, 0, 0, 0), (.aload_n 2, 202, 0, 0, 0), (.iconst 2, 203, 0, 0, 0), (.aload_n 0, 204, 0, 0, 0), (.iconst 0, 205, 0, 0, 0), (.bipush 30, 207, 0, 0, 0), (.invokevirtual 202, 210, 0, 4, 9), (.iastore, 211, 0, 0, 0), (.goto 163, 214, 0, 374, 0)]
abbrev bX11_clause_214 : List xE := [(.aload_n 0, 215, 0, 0, 0), (.aload_n 0, 216, 0, 0, 0), (.getfield 58, 219, 8, 23, 1), (.aload_n 0, 220, 0, 0, 0), (.getfield 20, 223, 8, 11, 1), (.iconst 2, 224, 0, 0, 0), (.iaload, 225, 0, 0, 0), (.aaload, 226, 0, 0, 0), (.invokevirtual 214, 229, 0, 5, 9), (.goto 145, 232, 0, 374, 0)]
abbrev bX11_clause_232 : List xE := [(.aload_n 0, 233, 0, 0, 0), (.invokevirtual 217, 236, 0, 6, 9), (.goto 138, 239, 0, 374, 0)]
abbrev bX11_clause_239 : List xE := [(.aload_n 0, 240, 0, 0, 0), (.invokevirtual 220, 243, 0, 7, 9), (.goto 131, 246, 0, 374, 0)]
abbrev bX11_clause_246 : List xE := [(.aload_n 0, 247, 0, 0, 0), (.invokevirtual 223, 250, 0, 8, 9), (.istore_n 2, 251, 0, 0, 0), (.aload_n 0, 252, 0, 0, 0), (.iload_n 2, 253, 0, 0, 0), (.invokevirtual 226, 256, 0, 9, 9), (.istore_n 3, 257, 0, 0, 0), (.aload_n 0, 258, 0, 0, 0), (.getfield 150, 261, 8, 5, 0), (.ifCond .eq 6, 264, 0, 267, 0), (.goto 110, 267, 0, 374, 0)]
abbrev bX11_clause_267 : List xE := [(.aload_n 0, 268, 0, 0, 0), (.getfield 38, 271, 8, 17, 1), (.iload_n 2, 272, 0, 0, 0), (.dup2, 273, 0, 0, 0), (.iaload, 274, 0, 0, 0), (.iconst 1, 275, 0, 0, 0), (.iload_n 3, 276, 0, 0, 0), (.ishl, 277, 0, 0, 0), (.ior, 278, 0, 0, 0), (.iastore, 279, 0, 0, 0), (.aload_n 0, 280, 0, 0, 0), (.getfield 38, 283, 8, 17, 1), (.iload_n 3, 284, 0, 0, 0), (.dup2, 285, 0, 0, 0), (.iaload, 286, 0, 0, 0), (.iconst 1, 287, 0, 0, 0), (.iload_n 2, 288, 0, 0, 0), (.ishl, 289, 0, 0, 0), (.ior, 290, 0, 0, 0), (.iastore, 291, 0, 0, 0), (.goto 83, 294, 0, 374, 0)]
abbrev bX11_clause_294 : List xE := [(.aload_n 0, 295, 0, 0, 0), (.invokevirtual 223, 298, 0, 8, 9), (.istore_n 2, 299, 0, 0, 0), (.aload_n 0, 300, 0, 0, 0), (.iload_n 2, 301, 0, 0, 0), (.invokevirtual 226, 304, 0, 9, 9), (.istore_n 3, 305, 0, 0, 0), (.aload_n 0, 306, 0, 0, 0), (.iconst 1, 307, 0, 0, 0), (.bipush 99, 309, 0, 0, 0), (.invokevirtual 202, 312, 0, 4, 9), (.istore 4, 314, 0, 0, 0), (.aload_n 0, 315, 0, 0, 0), (.getfield 150, 318, 8, 5, 0), (.ifCond .ne 56, 321, 0, 374, 0), (.aload_n 0, 322, 0, 0, 0), (.getfield 64, 325, 8, 25, 1), (.iload_n 2, 326, 0, 0, 0), (.aaload, 327, 0, 0, 0), (.iload_n 3, 328, 0, 0, 0), (.sipush 999, 331, 0, 0, 0), (.aload_n 0, 332, 0, 0, 0), (.getfield 64, 335, 8, 25, 1), (.iload_n 2, 336, 0, 0, 0), (.aaload, 337, 0, 0, 0), (.iload_n 3, 338, 0, 0, 0), (.iaload, 339, 0, 0, 0), (.iload 4, 341, 0, 0, 0), (.iadd, 342, 0, 0, 0), (.invokestatic 229, 345, 0, 10, 9), (.iastore, 346, 0, 0, 0), (.goto 28, 349, 0, 374, 0)]
abbrev bX11_clause_349 : List xE := [(.aload_n 0, 350, 0, 0, 0), (.iconst 0, 351, 0, 0, 0), (.bipush 9, 353, 0, 0, 0), (.invokevirtual 202, 356, 0, 4, 9), (.istore_n 2, 357, 0, 0, 0), (.aload_n 0, 358, 0, 0, 0), (.getfield 150, 361, 8, 5, 0), (.ifCond .ne 13, 364, 0, 374, 0), (.aload_n 0, 365, 0, 0, 0), (.getfield 20, 368, 8, 11, 1), (.iconst 3, 369, 0, 0, 0), (.iload_n 2, 370, 0, 0, 0), (.iastore, 371, 0, 0, 0), (.goto 3, 374, 0, 374, 0)]
abbrev bX11_clause_374 : List xE := [(.iload_n 1, 375, 0, 0, 0), (.iconst 3, 376, 0, 0, 0), (.if_icmp .ge 24, 379, 0, 400, 0), (.aload_n 0, 380, 0, 0, 0), (.getfield 20, 383, 8, 11, 1), (.iload_n 1, 384, 0, 0, 0), (.dup2, 385, 0, 0, 0), (.iaload, 386, 0, 0, 0), (.aload_n 0, 387, 0, 0, 0), (.getfield 150, 390, 8, 5, 0), (.ifCond .ne 7, 393, 0, 397, 0), (.iconst 1, 394, 0, 0, 0), (.goto 4, 397, 0, 398, 0)]
abbrev bX11_clause_397 : List xE := [(.iconst 0, 398, 0, 0, 0)]
abbrev bX11_clause_398 : List xE := [(.iadd, 399, 0, 0, 0), (.iastore, 400, 0, 0, 0)]
abbrev bX11_clause_400 : List xE := [(.aload_n 0, 401, 0, 0, 0), (.bipush 59, 403, 0, 0, 0), (.invokevirtual 232, 406, 0, 11, 9), (.return_, 407, 0, 0, 0)]
abbrev kX11_clause : List (Nat × List xE) := [(0, bX11_clause_0), (22, bX11_clause_22), (46, bX11_clause_46), (62, bX11_clause_62), (78, bX11_clause_78), (87, bX11_clause_87), (95, bX11_clause_95), (152, bX11_clause_152), (170, bX11_clause_170), (214, bX11_clause_214), (232, bX11_clause_232), (239, bX11_clause_239), (246, bX11_clause_246), (267, bX11_clause_267), (294, bX11_clause_294), (349, bX11_clause_349), (374, bX11_clause_374), (397, bX11_clause_397), (398, bX11_clause_398), (400, bX11_clause_400)]
abbrev lX11_clause : List (Nat × Nat × Nat × xS) := [(1, 0, 0, xm_this 8 S_X11_kindHere), (3, 0, 0, xm_this 8 S_X11_wrong), (1, 0, 0, xm_this 8 S_X11_skipWord), (2, 0, 0, xm_this 8 S_X11_bornHere), (3, 0, 0, xm_this 8 S_X11_number), (2, 0, 0, xm_this 8 S_X11_actHere), (1, 0, 0, xm_this 8 S_X11_worksHere), (1, 0, 0, xm_this 8 S_X11_quarrelHere), (1, 0, 0, xm_this 8 S_X11_handHere), (2, 0, 0, xm_this 8 S_X11_otherHere), (2, 0, 0, S_X11_less), (2, 0, 0, xm_this 8 S_X11_sign)]
theorem oX11_clause_0 {Iv : xI} (hI : xm_good Iv)  : xm_okb Iv RX11 cX11_clause false 6 lX11_clause bX11_clause_0 0 := xo_0 dX11_clause_0 rfl trivial (xo_c rfl (cv_X11_kindHere hI dX11_clause_1 (Or.inl q2157) (by decide)) (xo_0 dX11_clause_4 rfl trivial (xo_0 dX11_clause_5 rfl trivial (xo_0 dX11_clause_6 rfl trivial (xo_0 dX11_clause_7 rfl rfl (xo_0 dX11_clause_10 rfl trivial (xo_0 dX11_clause_11 rfl trivial (xo_0 dX11_clause_12 rfl trivial (xo_0 dX11_clause_13 rfl (xm_fg_of (Or.inl q1959) (by decide) rfl (by decide) rfl rfl (Or.inl rfl) rfl) (xo_c rfl (cv_X11_wrong hI dX11_clause_16 (Or.inl q2178) (by decide)) (xo_0 dX11_clause_19 rfl rfl (xo_n))))))))))))
theorem oX11_clause_22 {Iv : xI} (hI : xm_good Iv)  : xm_okb Iv RX11 cX11_clause false 6 lX11_clause bX11_clause_22 22 := xo_0 dX11_clause_22 rfl trivial (xo_0 dX11_clause_23 rfl (xm_fg_of (Or.inl q1962) (by decide) rfl (by decide) rfl rfl (Or.inl rfl) rfl) (xo_0 dX11_clause_26 rfl (xo_bipush (by decide +kernel)) (xo_0 dX11_clause_28 rfl rfl (xo_0 dX11_clause_31 rfl trivial (xo_0 dX11_clause_32 rfl rfl (xo_0 dX11_clause_35 rfl trivial (xo_1 dX11_clause_36 rfl (xm_fg_of (Or.inl q1966) (by decide) rfl (by decide) rfl rfl (Or.inl rfl) rfl) (xo_0 dX11_clause_39 rfl trivial (xo_0 dX11_clause_40 rfl trivial (xo_0 dX11_clause_41 rfl (xo_bipush (by decide +kernel)) (xo_0 dX11_clause_43 rfl rfl (xo_n))))))))))))
theorem oX11_clause_46 {Iv : xI} (hI : xm_good Iv)  : xm_okb Iv RX11 cX11_clause false 6 lX11_clause bX11_clause_46 46 := xo_0 dX11_clause_46 rfl trivial (xo_0 dX11_clause_47 rfl trivial (xo_0 dX11_clause_48 rfl rfl (xo_0 dX11_clause_51 rfl trivial (xo_1 dX11_clause_52 rfl (xm_fg_of (Or.inl q1966) (by decide) rfl (by decide) rfl rfl (Or.inl rfl) rfl) (xo_0 dX11_clause_55 rfl trivial (xo_0 dX11_clause_56 rfl trivial (xo_0 dX11_clause_57 rfl (xo_bipush (by decide +kernel)) (xo_0 dX11_clause_59 rfl rfl (xo_n)))))))))
theorem oX11_clause_62 {Iv : xI} (hI : xm_good Iv)  : xm_okb Iv RX11 cX11_clause false 6 lX11_clause bX11_clause_62 62 := xo_0 dX11_clause_62 rfl trivial (xo_0 dX11_clause_63 rfl trivial (xo_0 dX11_clause_64 rfl rfl (xo_0 dX11_clause_67 rfl trivial (xo_1 dX11_clause_68 rfl (xm_fg_of (Or.inl q1966) (by decide) rfl (by decide) rfl rfl (Or.inl rfl) rfl) (xo_0 dX11_clause_71 rfl trivial (xo_0 dX11_clause_72 rfl trivial (xo_0 dX11_clause_73 rfl (xo_bipush (by decide +kernel)) (xo_0 dX11_clause_75 rfl rfl (xo_n)))))))))
theorem oX11_clause_78 {Iv : xI} (hI : xm_good Iv)  : xm_okb Iv RX11 cX11_clause false 6 lX11_clause bX11_clause_78 78 := xo_0 dX11_clause_78 rfl trivial (xo_0 dX11_clause_79 rfl trivial (xo_0 dX11_clause_80 rfl trivial (xo_0 dX11_clause_81 rfl (xm_fg_of (Or.inl q1959) (by decide) rfl (by decide) rfl rfl (Or.inl rfl) rfl) (xo_c rfl (cv_X11_wrong hI dX11_clause_84 (Or.inl q2178) (by decide)) (xo_n)))))
theorem oX11_clause_87 {Iv : xI} (hI : xm_good Iv)  : xm_okb Iv RX11 cX11_clause false 6 lX11_clause bX11_clause_87 87 := xo_0 dX11_clause_87 rfl trivial (xo_0 dX11_clause_88 rfl (xm_fg_of (Or.inl q1960) (by decide) rfl (by decide) rfl rfl (Or.inl rfl) rfl) (xo_0 dX11_clause_91 rfl rfl (xo_0 dX11_clause_94 rfl trivial (xo_n))))
theorem oX11_clause_95 {Iv : xI} (hI : xm_good Iv)  : xm_okb Iv RX11 cX11_clause false 6 lX11_clause bX11_clause_95 95 := xo_0 dX11_clause_95 rfl trivial (xo_c rfl (cv_X11_skipWord hI dX11_clause_96 (Or.inl q2182) (by decide)) (xo_0 dX11_clause_99 rfl trivial (xo_0 dX11_clause_100 rfl trivial (xo_0 dX11_clause_101 rfl (xm_fg_of (Or.inl q1962) (by decide) rfl (by decide) rfl rfl (Or.inl rfl) rfl) (xo_0 dX11_clause_104 rfl trivial (xo_0 dX11_clause_105 rfl trivial (xo_0 dX11_clause_106 rfl (xm_fp_of (xm_fg_of (Or.inl q1962) (by decide) rfl (by decide) rfl rfl (Or.inl rfl) rfl) (by decide) rfl (Or.inl ⟨rfl, rfl⟩) rfl) (xo_0 dX11_clause_109 rfl trivial (xo_s dX11_clause_110 rfl (xo_tableswitch (by decide +kernel)) (xo_n))))))))))
theorem oX11_clause_152 {Iv : xI} (hI : xm_good Iv)  : xm_okb Iv RX11 cX11_clause false 6 lX11_clause bX11_clause_152 152 := xo_0 dX11_clause_152 rfl trivial (xo_0 dX11_clause_153 rfl trivial (xo_1 dX11_clause_154 rfl (xm_fg_of (Or.inl q1974) (by decide) rfl (by decide) rfl rfl (Or.inl rfl) rfl) (xo_0 dX11_clause_157 rfl trivial (xo_1 dX11_clause_158 rfl (xm_fg_of (Or.inl q1966) (by decide) rfl (by decide) rfl rfl (Or.inl rfl) rfl) (xo_0 dX11_clause_161 rfl trivial (xo_0 dX11_clause_162 rfl trivial (xo_0 dX11_clause_163 rfl trivial (xo_c rfl (cv_X11_bornHere hI dX11_clause_164 (Or.inl q2186) (by decide)) (xo_0 dX11_clause_167 rfl rfl (xo_n))))))))))
theorem oX11_clause_170 {Iv : xI} (hI : xm_good Iv)  : xm_okb Iv RX11 cX11_clause false 6 lX11_clause bX11_clause_170 170 := xo_0 dX11_clause_170 rfl trivial (xo_1 dX11_clause_171 rfl (xm_fg_of (Or.inl q1976) (by decide) rfl (by decide) rfl rfl (Or.inl rfl) rfl) (xo_0 dX11_clause_174 rfl trivial (xo_1 dX11_clause_175 rfl (xm_fg_of (Or.inl q1966) (by decide) rfl (by decide) rfl rfl (Or.inl rfl) rfl) (xo_0 dX11_clause_178 rfl trivial (xo_0 dX11_clause_179 rfl trivial (xo_0 dX11_clause_180 rfl trivial (xo_0 dX11_clause_181 rfl trivial (xo_0 dX11_clause_182 rfl trivial (xo_0 dX11_clause_183 rfl trivial (xo_0 dX11_clause_184 rfl trivial (xo_0 dX11_clause_185 rfl trivial (xo_0 dX11_clause_186 rfl (xo_bipush (by decide +kernel)) (xo_c rfl (cv_X11_number hI dX11_clause_188 (Or.inl q2190) (by decide)) (xo_0 dX11_clause_191 rfl trivial (xo_0 dX11_clause_192 rfl trivial (xo_0 dX11_clause_193 rfl trivial (xo_0 dX11_clause_194 rfl trivial (xo_0 dX11_clause_195 rfl trivial (xo_0 dX11_clause_196 rfl trivial (xo_c rfl (cv_X11_number hI dX11_clause_197 (Or.inl q2190) (by decide)) (xo_0 dX11_clause_200 rfl trivial (xo_0 dX11_clause_201 rfl trivial (xo_0 dX11_clause_202 rfl trivial (xo_0 dX11_clause_203 rfl trivial (xo_0 dX11_clause_204 rfl trivial (xo_0 dX11_clause_205 rfl (xo_bipush (by decide +kernel)) (xo_c rfl (cv_X11_number hI dX11_clause_207 (Or.inl q2190) (by decide)) (xo_0 dX11_clause_210 rfl trivial (xo_0 dX11_clause_211 rfl rfl (xo_n))))))))))))))))))))))))))))))
theorem oX11_clause_214 {Iv : xI} (hI : xm_good Iv)  : xm_okb Iv RX11 cX11_clause false 6 lX11_clause bX11_clause_214 214 := xo_0 dX11_clause_214 rfl trivial (xo_0 dX11_clause_215 rfl trivial (xo_1 dX11_clause_216 rfl (xm_fg_of (Or.inl q1978) (by decide) rfl (by decide) rfl rfl (Or.inl rfl) rfl) (xo_0 dX11_clause_219 rfl trivial (xo_1 dX11_clause_220 rfl (xm_fg_of (Or.inl q1966) (by decide) rfl (by decide) rfl rfl (Or.inl rfl) rfl) (xo_0 dX11_clause_223 rfl trivial (xo_0 dX11_clause_224 rfl trivial (xo_0 dX11_clause_225 rfl trivial (xo_c rfl (cv_X11_actHere hI dX11_clause_226 (Or.inl q2202) (by decide)) (xo_0 dX11_clause_229 rfl rfl (xo_n))))))))))
theorem oX11_clause_232 {Iv : xI} (hI : xm_good Iv)  : xm_okb Iv RX11 cX11_clause false 6 lX11_clause bX11_clause_232 232 := xo_0 dX11_clause_232 rfl trivial (xo_c rfl (cv_X11_worksHere hI dX11_clause_233 (Or.inl q2210) (by decide)) (xo_0 dX11_clause_236 rfl rfl (xo_n)))
theorem oX11_clause_239 {Iv : xI} (hI : xm_good Iv)  : xm_okb Iv RX11 cX11_clause false 6 lX11_clause bX11_clause_239 239 := xo_0 dX11_clause_239 rfl trivial (xo_c rfl (cv_X11_quarrelHere hI dX11_clause_240 (Or.inl q2221) (by decide)) (xo_0 dX11_clause_243 rfl rfl (xo_n)))
theorem oX11_clause_246 {Iv : xI} (hI : xm_good Iv)  : xm_okb Iv RX11 cX11_clause false 6 lX11_clause bX11_clause_246 246 := xo_0 dX11_clause_246 rfl trivial (xo_c rfl (cv_X11_handHere hI dX11_clause_247 (Or.inl q2214) (by decide)) (xo_0 dX11_clause_250 rfl trivial (xo_0 dX11_clause_251 rfl trivial (xo_0 dX11_clause_252 rfl trivial (xo_c rfl (cv_X11_otherHere hI dX11_clause_253 (Or.inl q2225) (by decide)) (xo_0 dX11_clause_256 rfl trivial (xo_0 dX11_clause_257 rfl trivial (xo_0 dX11_clause_258 rfl (xm_fg_of (Or.inl q1960) (by decide) rfl (by decide) rfl rfl (Or.inl rfl) rfl) (xo_0 dX11_clause_261 rfl rfl (xo_0 dX11_clause_264 rfl rfl (xo_n)))))))))))
theorem oX11_clause_267 {Iv : xI} (hI : xm_good Iv)  : xm_okb Iv RX11 cX11_clause false 6 lX11_clause bX11_clause_267 267 := xo_0 dX11_clause_267 rfl trivial (xo_1 dX11_clause_268 rfl (xm_fg_of (Or.inl q1972) (by decide) rfl (by decide) rfl rfl (Or.inl rfl) rfl) (xo_0 dX11_clause_271 rfl trivial (xo_0 dX11_clause_272 rfl trivial (xo_0 dX11_clause_273 rfl trivial (xo_0 dX11_clause_274 rfl trivial (xo_0 dX11_clause_275 rfl trivial (xo_0 dX11_clause_276 rfl trivial (xo_0 dX11_clause_277 rfl trivial (xo_0 dX11_clause_278 rfl trivial (xo_0 dX11_clause_279 rfl trivial (xo_1 dX11_clause_280 rfl (xm_fg_of (Or.inl q1972) (by decide) rfl (by decide) rfl rfl (Or.inl rfl) rfl) (xo_0 dX11_clause_283 rfl trivial (xo_0 dX11_clause_284 rfl trivial (xo_0 dX11_clause_285 rfl trivial (xo_0 dX11_clause_286 rfl trivial (xo_0 dX11_clause_287 rfl trivial (xo_0 dX11_clause_288 rfl trivial (xo_0 dX11_clause_289 rfl trivial (xo_0 dX11_clause_290 rfl trivial (xo_0 dX11_clause_291 rfl rfl (xo_n)))))))))))))))))))))
theorem oX11_clause_294 {Iv : xI} (hI : xm_good Iv)  : xm_okb Iv RX11 cX11_clause false 6 lX11_clause bX11_clause_294 294 := xo_0 dX11_clause_294 rfl trivial (xo_c rfl (cv_X11_handHere hI dX11_clause_295 (Or.inl q2214) (by decide)) (xo_0 dX11_clause_298 rfl trivial (xo_0 dX11_clause_299 rfl trivial (xo_0 dX11_clause_300 rfl trivial (xo_c rfl (cv_X11_otherHere hI dX11_clause_301 (Or.inl q2225) (by decide)) (xo_0 dX11_clause_304 rfl trivial (xo_0 dX11_clause_305 rfl trivial (xo_0 dX11_clause_306 rfl trivial (xo_0 dX11_clause_307 rfl (xo_bipush (by decide +kernel)) (xo_c rfl (cv_X11_number hI dX11_clause_309 (Or.inl q2190) (by decide)) (xo_0 dX11_clause_312 rfl trivial (xo_0 dX11_clause_314 rfl trivial (xo_0 dX11_clause_315 rfl (xm_fg_of (Or.inl q1960) (by decide) rfl (by decide) rfl rfl (Or.inl rfl) rfl) (xo_0 dX11_clause_318 rfl rfl (xo_0 dX11_clause_321 rfl trivial (xo_1 dX11_clause_322 rfl (xm_fg_of (Or.inl q1980) (by decide) rfl (by decide) rfl rfl (Or.inl rfl) rfl) (xo_0 dX11_clause_325 rfl trivial (xo_0 dX11_clause_326 rfl trivial (xo_0 dX11_clause_327 rfl trivial (xo_0 dX11_clause_328 rfl (xo_sipush (by decide +kernel)) (xo_0 dX11_clause_331 rfl trivial (xo_1 dX11_clause_332 rfl (xm_fg_of (Or.inl q1980) (by decide) rfl (by decide) rfl rfl (Or.inl rfl) rfl) (xo_0 dX11_clause_335 rfl trivial (xo_0 dX11_clause_336 rfl trivial (xo_0 dX11_clause_337 rfl trivial (xo_0 dX11_clause_338 rfl trivial (xo_0 dX11_clause_339 rfl trivial (xo_0 dX11_clause_341 rfl trivial (xo_c rfl (cv_X11_less hI dX11_clause_342 (Or.inl q2229) (by decide)) (xo_0 dX11_clause_345 rfl trivial (xo_0 dX11_clause_346 rfl rfl (xo_n))))))))))))))))))))))))))))))))
theorem oX11_clause_349 {Iv : xI} (hI : xm_good Iv)  : xm_okb Iv RX11 cX11_clause false 6 lX11_clause bX11_clause_349 349 := xo_0 dX11_clause_349 rfl trivial (xo_0 dX11_clause_350 rfl trivial (xo_0 dX11_clause_351 rfl (xo_bipush (by decide +kernel)) (xo_c rfl (cv_X11_number hI dX11_clause_353 (Or.inl q2190) (by decide)) (xo_0 dX11_clause_356 rfl trivial (xo_0 dX11_clause_357 rfl trivial (xo_0 dX11_clause_358 rfl (xm_fg_of (Or.inl q1960) (by decide) rfl (by decide) rfl rfl (Or.inl rfl) rfl) (xo_0 dX11_clause_361 rfl rfl (xo_0 dX11_clause_364 rfl trivial (xo_1 dX11_clause_365 rfl (xm_fg_of (Or.inl q1966) (by decide) rfl (by decide) rfl rfl (Or.inl rfl) rfl) (xo_0 dX11_clause_368 rfl trivial (xo_0 dX11_clause_369 rfl trivial (xo_0 dX11_clause_370 rfl trivial (xo_0 dX11_clause_371 rfl rfl (xo_n))))))))))))))
theorem oX11_clause_374 {Iv : xI} (hI : xm_good Iv)  : xm_okb Iv RX11 cX11_clause false 6 lX11_clause bX11_clause_374 374 := xo_0 dX11_clause_374 rfl trivial (xo_0 dX11_clause_375 rfl trivial (xo_0 dX11_clause_376 rfl rfl (xo_0 dX11_clause_379 rfl trivial (xo_1 dX11_clause_380 rfl (xm_fg_of (Or.inl q1966) (by decide) rfl (by decide) rfl rfl (Or.inl rfl) rfl) (xo_0 dX11_clause_383 rfl trivial (xo_0 dX11_clause_384 rfl trivial (xo_0 dX11_clause_385 rfl trivial (xo_0 dX11_clause_386 rfl trivial (xo_0 dX11_clause_387 rfl (xm_fg_of (Or.inl q1960) (by decide) rfl (by decide) rfl rfl (Or.inl rfl) rfl) (xo_0 dX11_clause_390 rfl rfl (xo_0 dX11_clause_393 rfl trivial (xo_0 dX11_clause_394 rfl rfl (xo_n)))))))))))))
theorem oX11_clause_397 {Iv : xI} (hI : xm_good Iv)  : xm_okb Iv RX11 cX11_clause false 6 lX11_clause bX11_clause_397 397 := xo_0 dX11_clause_397 rfl trivial (xo_n)
theorem oX11_clause_398 {Iv : xI} (hI : xm_good Iv)  : xm_okb Iv RX11 cX11_clause false 6 lX11_clause bX11_clause_398 398 := xo_0 dX11_clause_398 rfl trivial (xo_0 dX11_clause_399 rfl trivial (xo_n))
theorem oX11_clause_400 {Iv : xI} (hI : xm_good Iv)  : xm_okb Iv RX11 cX11_clause false 6 lX11_clause bX11_clause_400 400 := xo_0 dX11_clause_400 rfl trivial (xo_0 dX11_clause_401 rfl (xo_bipush (by decide +kernel)) (xo_c rfl (cv_X11_sign hI dX11_clause_403 (Or.inl q2232) (by decide)) (xo_0 dX11_clause_406 rfl trivial (xo_n))))
theorem oX11_clause {Iv : xI} (hI : xm_good Iv)  : ∀ q ∈ kX11_clause, xm_okb Iv RX11 cX11_clause false 6 lX11_clause q.2 q.1 := by
  intro q hq
  simp only [List.mem_cons, List.not_mem_nil, or_false] at hq
  rcases hq with rfl | rfl | rfl | rfl | rfl | rfl | rfl | rfl | rfl | rfl | rfl | rfl | rfl | rfl | rfl | rfl | rfl | rfl | rfl | rfl
  · exact oX11_clause_0 hI  
  · exact oX11_clause_22 hI  
  · exact oX11_clause_46 hI  
  · exact oX11_clause_62 hI  
  · exact oX11_clause_78 hI  
  · exact oX11_clause_87 hI  
  · exact oX11_clause_95 hI  
  · exact oX11_clause_152 hI  
  · exact oX11_clause_170 hI  
  · exact oX11_clause_214 hI  
  · exact oX11_clause_232 hI  
  · exact oX11_clause_239 hI  
  · exact oX11_clause_246 hI  
  · exact oX11_clause_267 hI  
  · exact oX11_clause_294 hI  
  · exact oX11_clause_349 hI  
  · exact oX11_clause_374 hI  
  · exact oX11_clause_397 hI  
  · exact oX11_clause_398 hI  
  · exact oX11_clause_400 hI  
def S_X11_clause : xS := tU fun as I Q => as = [.ref 0] ∧ ∃ f n, t_tx I f n ∧ ∃ k, t_ps I n (.inr k) ∧ ∃ F, t_fok F ∧ t_rea I F ∧ ∀ J, t_rf I J → t_out J n (p_clause f n F k) → Q none J
theorem body_X11_clause : xm_Body 5 2 0 0 [] lX11_clause kX11_clause S_X11_clause := by
  intro X avs w Q QX hX0 hS
  have hG := xm_go [] hX0
  have hX := xm_go [95, 374, 152, 170, 214, 232, 239, 246, 294, 349] hX0
  clear hX0
  obtain ⟨I, rfl, rfl, f, n, ht, k, hp, F, hF, hr, hQ⟩ := hS
  obtain ⟨h5n, h4, hk⟩ := t_ps_n hp
  obtain ⟨R, hR⟩ : ∃ R, R = p_clause f n F k := ⟨_, rfl⟩
  rw [← hR] at hQ
  unfold p_clause at hR
  have f11 : t_rr 11 := Or.inl rfl
  have ok : ∀ o : Option Value, (o = none ∨ ∃ z, o = some z) := fun o => by cases o with | none => exact Or.inl rfl | some z => exact Or.inr ⟨z, rfl⟩
  have sgn : ∀ M F2 k2, t_rf I M → t_ps M n (.inr k2) → t_rea M F2 → p_sg f n F2 k2 = R → ∀ J, t_pf M J → t_ps J n (p_then (.inr k2) (p_sign f n (nI 59))) → Q none (tW J) := by
    intro M F2 k2 hM hp hr hR J hJ hps
    unfold p_sg at hR
    have hps : t_ps J n (p_sign f n (nI 59) k2) := hps
    cases hs : p_sign f n (nI 59) k2 with
    | inl e =>
      rw [hs] at hR hps
      subst hR
      exact hQ J (hM.tr hJ.r) hps
    | inr k3 =>
      rw [hs] at hR hps
      subst hR
      exact hQ J (hM.tr hJ.r) ⟨hps, hJ.d hr⟩
  have e374 : ∀ j, j < 8 → ∀ M o2 o3 o4 e, t_rf I M → t_ps M n (.inl e) → .inl e = R → X 374 [some (.ref 0), some (.int (nI j)), o2, o3, o4] [] (tW M) 0 0 := by
    intro j hj M o2 o3 o4 e hM hp he
    subst he
    have h5 := t_ps_e hp
    have h59 : ¬ (nI 59) = nM := by decide +kernel
    have htM := hM.tx ht
    by_cases h3 : j < 3
    · have hlt : ¬ Int32.ofInt 3 ≤ nI j := by rw [xl_n.2.2.2.1]; exact nI_ge h3 (by decide)
      have ht2 := t_tx_u (b := 11) (k := j) (v := M 11 j + nI 0) htM (by decide) (by decide)
      have hp2 := t_ps_u (b := 11) (k := j) (v := M 11 j + nI 0) hp (by decide)
      refine hG _ _ _ _ _ _ ?_
      (conv => whnf)
      repeat' (first
        | ((with_reducible refine @And.intro (vp_in _ _) _ ?_ ?_); (· (first | with_reducible assumption | ((with_reducible refine t_vin ?_); decide) | ((with_reducible refine vp_in_nI ?_ ?_) <;> first | omega | decide) | (simp (disch := omega) only [xl_n, xl_m, nI_dec, nI_sb, nI_add, pk_mul]; (with_reducible refine vp_in_nI ?_ ?_) <;> first | omega | decide))); (conv => whnf))
        | (refine And.intro (by first | with_reducible assumption | exact (show tL _ = _ from rfl) | decide) ?_; (conv => whnf))
        | ((with_reducible refine @And.intro (_ = _) _ ?_ ?_); (· rfl); (conv => whnf))
        | ((with_reducible refine @And.intro (@LE.le Nat _ _ _) _ ?_ ?_); (· (first | exact Nat.zero_le _ | exact Nat.le_of_ble_eq_true rfl | omega)); (conv => whnf))
        | ((with_reducible refine @And.intro (@LT.lt Nat _ _ _) _ ?_ ?_); (· omega); (conv => whnf))
        | ((with_reducible refine @And.intro (∃ _, _ = _) _ ?_ ?_); (· exact ⟨_, rfl⟩); (conv => whnf))
        | ((with_reducible refine @And.intro (_ ∨ _) _ ?_ ?_); (· (first | exact Or.inl rfl | exact Or.inr rfl | exact t_b01 _ | assumption)); (conv => whnf))
        | ((with_reducible refine @And.intro (¬ (_ = _)) _ ?_ ?_); (· first | assumption | (with_reducible assumption)); (conv => whnf))
        | (refine hX _ _ _ _ _ _ ?_; (conv => whnf); fail_if_success show False)
        | (rw [t_si]; simp (disch := omega) only [xl_n, xl_m, nI_dec, nI_sb, xl_0, xl_1, tW_i, t_bn0, t_bn1, Classical.not_not, t_lt, nI_add, nI_1, pk_mul, nI_clamp, t_si, nI_eq, nI_leI, nM_ne, nM_ne, xm_u2_ne, xm_u2_at, reduceIte, tK_u, tA_u, Nat.reduceEqDiff]; (conv => whnf))
        | (refine ⟨_, rfl, ?_⟩; (conv => whnf))
        | (refine ⟨_, _, rfl, ?_⟩; (conv => whnf))
        | (refine ⟨_, _, _, rfl, ?_⟩; (conv => whnf))
        | (refine ⟨_, _, _, _, rfl, ?_⟩; (conv => whnf))
        | (refine ⟨_, _, (by with_reducible assumption), ?_⟩; (conv => whnf))
        | (refine ⟨_, (by first | with_reducible assumption | exact rfl), ?_⟩; (conv => whnf))
        | (refine And.intro (fun c => ?_) (fun c => ?_) <;> (first | (exact absurd c (by decide +kernel)) | (exact absurd c (by assumption)) | (exact False.elim (c (by assumption))) | (conv => whnf)))
        | fail)
      intro J hJ hps
      (conv => whnf)
      repeat' (first
        | ((with_reducible refine @And.intro (vp_in _ _) _ ?_ ?_); (· (first | with_reducible assumption | ((with_reducible refine t_vin ?_); decide) | ((with_reducible refine vp_in_nI ?_ ?_) <;> first | omega | decide) | (simp (disch := omega) only [xl_n, xl_m, nI_dec, nI_sb, nI_add, pk_mul]; (with_reducible refine vp_in_nI ?_ ?_) <;> first | omega | decide))); (conv => whnf))
        | (refine And.intro (by first | with_reducible assumption | exact (show tL _ = _ from rfl) | decide) ?_; (conv => whnf))
        | ((with_reducible refine @And.intro (_ = _) _ ?_ ?_); (· rfl); (conv => whnf))
        | ((with_reducible refine @And.intro (@LE.le Nat _ _ _) _ ?_ ?_); (· (first | exact Nat.zero_le _ | exact Nat.le_of_ble_eq_true rfl | omega)); (conv => whnf))
        | ((with_reducible refine @And.intro (@LT.lt Nat _ _ _) _ ?_ ?_); (· omega); (conv => whnf))
        | ((with_reducible refine @And.intro (∃ _, _ = _) _ ?_ ?_); (· exact ⟨_, rfl⟩); (conv => whnf))
        | ((with_reducible refine @And.intro (_ ∨ _) _ ?_ ?_); (· (first | exact Or.inl rfl | exact Or.inr rfl | exact t_b01 _ | assumption)); (conv => whnf))
        | ((with_reducible refine @And.intro (¬ (_ = _)) _ ?_ ?_); (· first | assumption | (with_reducible assumption)); (conv => whnf))
        | (refine hX _ _ _ _ _ _ ?_; (conv => whnf); fail_if_success show False)
        | (rw [t_si]; (conv => whnf))
        | (refine ⟨_, rfl, ?_⟩; (conv => whnf))
        | (refine ⟨_, _, rfl, ?_⟩; (conv => whnf))
        | (refine ⟨_, _, _, rfl, ?_⟩; (conv => whnf))
        | (refine ⟨_, _, _, _, rfl, ?_⟩; (conv => whnf))
        | (refine And.intro (fun c => ?_) (fun c => ?_) <;> (first | (exact absurd c (by decide +kernel)) | (conv => whnf)))
        | fail)
      exact hQ J ((hM.tr (t_rf.u f11)).tr hJ.r) hps
    · have hlt : Int32.ofInt 3 ≤ nI j := by rw [xl_n.2.2.2.1]; exact nI_le (by omega) (by omega)
      refine hG _ _ _ _ _ _ ?_
      (conv => whnf)
      repeat' (first
        | ((with_reducible refine @And.intro (vp_in _ _) _ ?_ ?_); (· (first | with_reducible assumption | ((with_reducible refine t_vin ?_); decide) | ((with_reducible refine vp_in_nI ?_ ?_) <;> first | omega | decide) | (simp (disch := omega) only [xl_n, xl_m, nI_dec, nI_sb, nI_add, pk_mul]; (with_reducible refine vp_in_nI ?_ ?_) <;> first | omega | decide))); (conv => whnf))
        | (refine And.intro (by first | with_reducible assumption | exact (show tL _ = _ from rfl) | decide) ?_; (conv => whnf))
        | ((with_reducible refine @And.intro (_ = _) _ ?_ ?_); (· rfl); (conv => whnf))
        | ((with_reducible refine @And.intro (@LE.le Nat _ _ _) _ ?_ ?_); (· (first | exact Nat.zero_le _ | exact Nat.le_of_ble_eq_true rfl | omega)); (conv => whnf))
        | ((with_reducible refine @And.intro (@LT.lt Nat _ _ _) _ ?_ ?_); (· omega); (conv => whnf))
        | ((with_reducible refine @And.intro (∃ _, _ = _) _ ?_ ?_); (· exact ⟨_, rfl⟩); (conv => whnf))
        | ((with_reducible refine @And.intro (_ ∨ _) _ ?_ ?_); (· (first | exact Or.inl rfl | exact Or.inr rfl | exact t_b01 _ | assumption)); (conv => whnf))
        | ((with_reducible refine @And.intro (¬ (_ = _)) _ ?_ ?_); (· first | assumption | (with_reducible assumption)); (conv => whnf))
        | (refine hX _ _ _ _ _ _ ?_; (conv => whnf); fail_if_success show False)
        | (rw [t_si]; simp (disch := omega) only [xl_n, xl_m, nI_dec, nI_sb, xl_0, xl_1, tW_i, t_bn0, t_bn1, Classical.not_not, t_lt, nI_add, nI_1, pk_mul, nI_clamp, t_si, nI_eq, nI_leI, nM_ne, nM_ne, xm_u2_ne, xm_u2_at, reduceIte, tK_u, tA_u, Nat.reduceEqDiff]; (conv => whnf))
        | (refine ⟨_, rfl, ?_⟩; (conv => whnf))
        | (refine ⟨_, _, rfl, ?_⟩; (conv => whnf))
        | (refine ⟨_, _, _, rfl, ?_⟩; (conv => whnf))
        | (refine ⟨_, _, _, _, rfl, ?_⟩; (conv => whnf))
        | (refine ⟨_, _, (by with_reducible assumption), ?_⟩; (conv => whnf))
        | (refine ⟨_, (by first | with_reducible assumption | exact rfl), ?_⟩; (conv => whnf))
        | (refine And.intro (fun c => ?_) (fun c => ?_) <;> (first | (exact absurd c (by decide +kernel)) | (exact absurd c (by assumption)) | (exact False.elim (c (by assumption))) | (conv => whnf)))
        | fail)
      intro J hJ hps
      (conv => whnf)
      repeat' (first
        | ((with_reducible refine @And.intro (vp_in _ _) _ ?_ ?_); (· (first | with_reducible assumption | ((with_reducible refine t_vin ?_); decide) | ((with_reducible refine vp_in_nI ?_ ?_) <;> first | omega | decide) | (simp (disch := omega) only [xl_n, xl_m, nI_dec, nI_sb, nI_add, pk_mul]; (with_reducible refine vp_in_nI ?_ ?_) <;> first | omega | decide))); (conv => whnf))
        | (refine And.intro (by first | with_reducible assumption | exact (show tL _ = _ from rfl) | decide) ?_; (conv => whnf))
        | ((with_reducible refine @And.intro (_ = _) _ ?_ ?_); (· rfl); (conv => whnf))
        | ((with_reducible refine @And.intro (@LE.le Nat _ _ _) _ ?_ ?_); (· (first | exact Nat.zero_le _ | exact Nat.le_of_ble_eq_true rfl | omega)); (conv => whnf))
        | ((with_reducible refine @And.intro (@LT.lt Nat _ _ _) _ ?_ ?_); (· omega); (conv => whnf))
        | ((with_reducible refine @And.intro (∃ _, _ = _) _ ?_ ?_); (· exact ⟨_, rfl⟩); (conv => whnf))
        | ((with_reducible refine @And.intro (_ ∨ _) _ ?_ ?_); (· (first | exact Or.inl rfl | exact Or.inr rfl | exact t_b01 _ | assumption)); (conv => whnf))
        | ((with_reducible refine @And.intro (¬ (_ = _)) _ ?_ ?_); (· first | assumption | (with_reducible assumption)); (conv => whnf))
        | (refine hX _ _ _ _ _ _ ?_; (conv => whnf); fail_if_success show False)
        | (rw [t_si]; (conv => whnf))
        | (refine ⟨_, rfl, ?_⟩; (conv => whnf))
        | (refine ⟨_, _, rfl, ?_⟩; (conv => whnf))
        | (refine ⟨_, _, _, rfl, ?_⟩; (conv => whnf))
        | (refine ⟨_, _, _, _, rfl, ?_⟩; (conv => whnf))
        | (refine And.intro (fun c => ?_) (fun c => ?_) <;> (first | (exact absurd c (by decide +kernel)) | (conv => whnf)))
        | fail)
      exact hQ J (hM.tr hJ.r) hps
  have a374 : ∀ j, 3 ≤ j → j < 8 → ∀ M F2 k2 o2 o3 o4, t_rf I M → t_ps M n (.inr k2) → t_rea M F2 → p_sg f n F2 k2 = R → X 374 [some (.ref 0), some (.int (nI j)), o2, o3, o4] [] (tW M) 0 0 := by
    intro j hj3 hj M F2 k2 o2 o3 o4 hM hp hr hR
    have sgn := sgn M F2 k2 hM hp hr hR
    have h5 := t_ps_0 hp
    have h59 : ¬ (nI 59) = nM := by decide +kernel
    have htM := hM.tx ht
    have hlt : Int32.ofInt 3 ≤ nI j := by rw [xl_n.2.2.2.1]; exact nI_le (by omega) (by omega)
    refine hG _ _ _ _ _ _ ?_
    (conv => whnf)
    repeat' (first
      | ((with_reducible refine @And.intro (vp_in _ _) _ ?_ ?_); (· (first | with_reducible assumption | ((with_reducible refine t_vin ?_); decide) | ((with_reducible refine vp_in_nI ?_ ?_) <;> first | omega | decide) | (simp (disch := omega) only [xl_n, xl_m, nI_dec, nI_sb, nI_add, pk_mul]; (with_reducible refine vp_in_nI ?_ ?_) <;> first | omega | decide))); (conv => whnf))
      | (refine And.intro (by first | with_reducible assumption | exact (show tL _ = _ from rfl) | decide) ?_; (conv => whnf))
      | ((with_reducible refine @And.intro (_ = _) _ ?_ ?_); (· rfl); (conv => whnf))
      | ((with_reducible refine @And.intro (@LE.le Nat _ _ _) _ ?_ ?_); (· (first | exact Nat.zero_le _ | exact Nat.le_of_ble_eq_true rfl | omega)); (conv => whnf))
      | ((with_reducible refine @And.intro (@LT.lt Nat _ _ _) _ ?_ ?_); (· omega); (conv => whnf))
      | ((with_reducible refine @And.intro (∃ _, _ = _) _ ?_ ?_); (· exact ⟨_, rfl⟩); (conv => whnf))
      | ((with_reducible refine @And.intro (_ ∨ _) _ ?_ ?_); (· (first | exact Or.inl rfl | exact Or.inr rfl | exact t_b01 _ | assumption)); (conv => whnf))
      | ((with_reducible refine @And.intro (¬ (_ = _)) _ ?_ ?_); (· first | assumption | (with_reducible assumption)); (conv => whnf))
      | (refine hX _ _ _ _ _ _ ?_; (conv => whnf); fail_if_success show False)
      | (rw [t_si]; simp (disch := omega) only [xl_n, xl_m, nI_dec, nI_sb, xl_0, xl_1, tW_i, t_bn0, t_bn1, Classical.not_not, t_lt, nI_add, nI_1, pk_mul, nI_clamp, t_si, nI_eq, nI_leI, nM_ne, nM_ne, xm_u2_ne, xm_u2_at, reduceIte, tK_u, tA_u, Nat.reduceEqDiff]; (conv => whnf))
      | (refine ⟨_, rfl, ?_⟩; (conv => whnf))
      | (refine ⟨_, _, rfl, ?_⟩; (conv => whnf))
      | (refine ⟨_, _, _, rfl, ?_⟩; (conv => whnf))
      | (refine ⟨_, _, _, _, rfl, ?_⟩; (conv => whnf))
      | (refine ⟨_, _, (by with_reducible assumption), ?_⟩; (conv => whnf))
      | (refine ⟨_, (by first | with_reducible assumption | exact rfl), ?_⟩; (conv => whnf))
      | (refine And.intro (fun c => ?_) (fun c => ?_) <;> (first | (exact absurd c (by decide +kernel)) | (exact absurd c (by assumption)) | (exact False.elim (c (by assumption))) | (conv => whnf)))
      | fail)
    intro J hJ hps
    (conv => whnf)
    repeat' (first
      | ((with_reducible refine @And.intro (vp_in _ _) _ ?_ ?_); (· (first | with_reducible assumption | ((with_reducible refine t_vin ?_); decide) | ((with_reducible refine vp_in_nI ?_ ?_) <;> first | omega | decide) | (simp (disch := omega) only [xl_n, xl_m, nI_dec, nI_sb, nI_add, pk_mul]; (with_reducible refine vp_in_nI ?_ ?_) <;> first | omega | decide))); (conv => whnf))
      | (refine And.intro (by first | with_reducible assumption | exact (show tL _ = _ from rfl) | decide) ?_; (conv => whnf))
      | ((with_reducible refine @And.intro (_ = _) _ ?_ ?_); (· rfl); (conv => whnf))
      | ((with_reducible refine @And.intro (@LE.le Nat _ _ _) _ ?_ ?_); (· (first | exact Nat.zero_le _ | exact Nat.le_of_ble_eq_true rfl | omega)); (conv => whnf))
      | ((with_reducible refine @And.intro (@LT.lt Nat _ _ _) _ ?_ ?_); (· omega); (conv => whnf))
      | ((with_reducible refine @And.intro (∃ _, _ = _) _ ?_ ?_); (· exact ⟨_, rfl⟩); (conv => whnf))
      | ((with_reducible refine @And.intro (_ ∨ _) _ ?_ ?_); (· (first | exact Or.inl rfl | exact Or.inr rfl | exact t_b01 _ | assumption)); (conv => whnf))
      | ((with_reducible refine @And.intro (¬ (_ = _)) _ ?_ ?_); (· first | assumption | (with_reducible assumption)); (conv => whnf))
      | (refine hX _ _ _ _ _ _ ?_; (conv => whnf); fail_if_success show False)
      | (rw [t_si]; (conv => whnf))
      | (refine ⟨_, rfl, ?_⟩; (conv => whnf))
      | (refine ⟨_, _, rfl, ?_⟩; (conv => whnf))
      | (refine ⟨_, _, _, rfl, ?_⟩; (conv => whnf))
      | (refine ⟨_, _, _, _, rfl, ?_⟩; (conv => whnf))
      | (refine And.intro (fun c => ?_) (fun c => ?_) <;> (first | (exact absurd c (by decide +kernel)) | (conv => whnf)))
      | fail)
    exact sgn J hJ hps
  have b374 : ∀ j, j < 3 → ∀ M F2 k2 o2 o3 o4 x, t_rf I M → t_ps M n (.inr k2) → M 11 j + nI 1 = x → t_rea (xm_u2 M 11 j x) F2 → p_sg f n F2 k2 = R → X 374 [some (.ref 0), some (.int (nI j)), o2, o3, o4] [] (tW M) 0 0 := by
    intro j hj M F2 k2 o2 o3 o4 x hM hp hx hr hR
    subst hx
    have hp2 := t_ps_u (b := 11) (k := j) (v := M 11 j + nI 1) hp (by decide)
    have sgn := sgn _ F2 k2 (hM.tr (t_rf.u f11)) hp2 hr hR
    have h5 := t_ps_0 hp
    have h59 : ¬ (nI 59) = nM := by decide +kernel
    have htM := hM.tx ht
    have ht2 := t_tx_u (b := 11) (k := j) (v := M 11 j + nI 1) htM (by decide) (by decide)
    have hlt : ¬ Int32.ofInt 3 ≤ nI j := by rw [xl_n.2.2.2.1]; exact nI_ge hj (by decide)
    refine hG _ _ _ _ _ _ ?_
    (conv => whnf)
    repeat' (first
      | ((with_reducible refine @And.intro (vp_in _ _) _ ?_ ?_); (· (first | with_reducible assumption | ((with_reducible refine t_vin ?_); decide) | ((with_reducible refine vp_in_nI ?_ ?_) <;> first | omega | decide) | (simp (disch := omega) only [xl_n, xl_m, nI_dec, nI_sb, nI_add, pk_mul]; (with_reducible refine vp_in_nI ?_ ?_) <;> first | omega | decide))); (conv => whnf))
      | (refine And.intro (by first | with_reducible assumption | exact (show tL _ = _ from rfl) | decide) ?_; (conv => whnf))
      | ((with_reducible refine @And.intro (_ = _) _ ?_ ?_); (· rfl); (conv => whnf))
      | ((with_reducible refine @And.intro (@LE.le Nat _ _ _) _ ?_ ?_); (· (first | exact Nat.zero_le _ | exact Nat.le_of_ble_eq_true rfl | omega)); (conv => whnf))
      | ((with_reducible refine @And.intro (@LT.lt Nat _ _ _) _ ?_ ?_); (· omega); (conv => whnf))
      | ((with_reducible refine @And.intro (∃ _, _ = _) _ ?_ ?_); (· exact ⟨_, rfl⟩); (conv => whnf))
      | ((with_reducible refine @And.intro (_ ∨ _) _ ?_ ?_); (· (first | exact Or.inl rfl | exact Or.inr rfl | exact t_b01 _ | assumption)); (conv => whnf))
      | ((with_reducible refine @And.intro (¬ (_ = _)) _ ?_ ?_); (· first | assumption | (with_reducible assumption)); (conv => whnf))
      | (refine hX _ _ _ _ _ _ ?_; (conv => whnf); fail_if_success show False)
      | (rw [t_si]; simp (disch := omega) only [xl_n, xl_m, nI_dec, nI_sb, xl_0, xl_1, tW_i, t_bn0, t_bn1, Classical.not_not, t_lt, nI_add, nI_1, pk_mul, nI_clamp, t_si, nI_eq, nI_leI, nM_ne, nM_ne, xm_u2_ne, xm_u2_at, reduceIte, tK_u, tA_u, Nat.reduceEqDiff]; (conv => whnf))
      | (refine ⟨_, rfl, ?_⟩; (conv => whnf))
      | (refine ⟨_, _, rfl, ?_⟩; (conv => whnf))
      | (refine ⟨_, _, _, rfl, ?_⟩; (conv => whnf))
      | (refine ⟨_, _, _, _, rfl, ?_⟩; (conv => whnf))
      | (refine ⟨_, _, (by with_reducible assumption), ?_⟩; (conv => whnf))
      | (refine ⟨_, (by first | with_reducible assumption | exact rfl), ?_⟩; (conv => whnf))
      | (refine And.intro (fun c => ?_) (fun c => ?_) <;> (first | (exact absurd c (by decide +kernel)) | (exact absurd c (by assumption)) | (exact False.elim (c (by assumption))) | (conv => whnf)))
      | fail)
    intro J hJ hps
    (conv => whnf)
    repeat' (first
      | ((with_reducible refine @And.intro (vp_in _ _) _ ?_ ?_); (· (first | with_reducible assumption | ((with_reducible refine t_vin ?_); decide) | ((with_reducible refine vp_in_nI ?_ ?_) <;> first | omega | decide) | (simp (disch := omega) only [xl_n, xl_m, nI_dec, nI_sb, nI_add, pk_mul]; (with_reducible refine vp_in_nI ?_ ?_) <;> first | omega | decide))); (conv => whnf))
      | (refine And.intro (by first | with_reducible assumption | exact (show tL _ = _ from rfl) | decide) ?_; (conv => whnf))
      | ((with_reducible refine @And.intro (_ = _) _ ?_ ?_); (· rfl); (conv => whnf))
      | ((with_reducible refine @And.intro (@LE.le Nat _ _ _) _ ?_ ?_); (· (first | exact Nat.zero_le _ | exact Nat.le_of_ble_eq_true rfl | omega)); (conv => whnf))
      | ((with_reducible refine @And.intro (@LT.lt Nat _ _ _) _ ?_ ?_); (· omega); (conv => whnf))
      | ((with_reducible refine @And.intro (∃ _, _ = _) _ ?_ ?_); (· exact ⟨_, rfl⟩); (conv => whnf))
      | ((with_reducible refine @And.intro (_ ∨ _) _ ?_ ?_); (· (first | exact Or.inl rfl | exact Or.inr rfl | exact t_b01 _ | assumption)); (conv => whnf))
      | ((with_reducible refine @And.intro (¬ (_ = _)) _ ?_ ?_); (· first | assumption | (with_reducible assumption)); (conv => whnf))
      | (refine hX _ _ _ _ _ _ ?_; (conv => whnf); fail_if_success show False)
      | (rw [t_si]; (conv => whnf))
      | (refine ⟨_, rfl, ?_⟩; (conv => whnf))
      | (refine ⟨_, _, rfl, ?_⟩; (conv => whnf))
      | (refine ⟨_, _, _, rfl, ?_⟩; (conv => whnf))
      | (refine ⟨_, _, _, _, rfl, ?_⟩; (conv => whnf))
      | (refine And.intro (fun c => ?_) (fun c => ?_) <;> (first | (exact absurd c (by decide +kernel)) | (conv => whnf)))
      | fail)
    exact sgn J hJ hps
  have c0 : ∀ M F k, t_rf I M → t_ps M n (.inr k) → t_rea M F → t_fok F → f_h F < 9 → p_bd (p_body f n F 0 k) (fun F k => p_sg f n F k) = R → X 152 [some (.ref 0), some (.int (nI 0)), none, none, none] [] (tW M) 0 0 := by
    clear hp hr hF h5n h4 hk hR
    intro M F k hM hp hr hF hx hR
    have htM := hM.tx ht
    obtain ⟨h5n, h4, hk⟩ := t_ps_n hp
    have h5 := t_ps_0 hp
    have hR : p_bd (p_bd (p_born f n F (100 + f_h F) k) fun F k => .inr (p_more F 0, k)) (fun F k => p_sg f n F k) = R := hR
    have e0 : (tW M).2.1 11 (Int32.ofInt 0).toNatClampNeg = nI (f_h F) := hr.h.trans hF.1
    refine hG _ _ _ _ _ _ ?_
    (conv => whnf)
    repeat' (first
      | (refine ⟨f_h F, congrArg (fun x => [Value.ref 0, Value.ref (100 + x)]) (nI_clamp (by omega)), ?_⟩; (conv => whnf))
      | ((with_reducible refine @And.intro (vp_in _ _) _ ?_ ?_); (· (first | with_reducible assumption | ((with_reducible refine t_vin ?_); decide) | ((with_reducible refine vp_in_nI ?_ ?_) <;> first | omega | decide) | (simp (disch := omega) only [xl_n, xl_m, nI_dec, nI_sb, nI_add, pk_mul]; (with_reducible refine vp_in_nI ?_ ?_) <;> first | omega | decide))); (conv => whnf))
      | (refine And.intro (by first | with_reducible assumption | exact (show tL _ = _ from rfl) | decide) ?_; (conv => whnf))
      | ((with_reducible refine @And.intro (_ = _) _ ?_ ?_); (· rfl); (conv => whnf))
      | ((with_reducible refine @And.intro (@LE.le Nat _ _ _) _ ?_ ?_); (· (first | exact Nat.zero_le _ | exact Nat.le_of_ble_eq_true rfl | omega)); (conv => whnf))
      | ((with_reducible refine @And.intro (@LT.lt Nat _ _ _) _ ?_ ?_); (· omega); (conv => whnf))
      | ((with_reducible refine @And.intro (∃ _, _ = _) _ ?_ ?_); (· exact ⟨_, rfl⟩); (conv => whnf))
      | ((with_reducible refine @And.intro (_ ∨ _) _ ?_ ?_); (· (first | exact Or.inl rfl | exact Or.inr rfl | exact t_b01 _ | assumption)); (conv => whnf))
      | ((with_reducible refine @And.intro (¬ (_ = _)) _ ?_ ?_); (· first | assumption | (with_reducible assumption)); (conv => whnf))
      | (refine hX _ _ _ _ _ _ ?_; (conv => whnf); fail_if_success show False)
      | (rw [t_si]; (conv => whnf))
      | (refine ⟨_, rfl, ?_⟩; (conv => whnf))
      | (refine ⟨_, _, rfl, ?_⟩; (conv => whnf))
      | (refine ⟨_, _, _, rfl, ?_⟩; (conv => whnf))
      | (refine ⟨_, _, _, _, rfl, ?_⟩; (conv => whnf))
      | (rw [e0]; (conv => whnf))
      | (refine ⟨_, _, (by with_reducible assumption), ?_⟩; (conv => whnf))
      | (refine ⟨_, (by first | with_reducible assumption | exact rfl), ?_⟩; (conv => whnf))
      | (refine And.intro (fun c => ?_) (fun c => ?_) <;> (first | (exact absurd c (by decide +kernel)) | (exact absurd c (by assumption)) | (exact False.elim (c (by assumption))) | (conv => whnf)))
      | fail)
    intro J hJ ho hrow
    (conv => whnf)
    repeat' (first
      | ((with_reducible refine @And.intro (vp_in _ _) _ ?_ ?_); (· (first | with_reducible assumption | ((with_reducible refine t_vin ?_); decide) | ((with_reducible refine vp_in_nI ?_ ?_) <;> first | omega | decide) | (simp (disch := omega) only [xl_n, xl_m, nI_dec, nI_sb, nI_add, pk_mul]; (with_reducible refine vp_in_nI ?_ ?_) <;> first | omega | decide))); (conv => whnf))
      | (refine And.intro (by first | with_reducible assumption | exact (show tL _ = _ from rfl) | decide) ?_; (conv => whnf))
      | ((with_reducible refine @And.intro (_ = _) _ ?_ ?_); (· rfl); (conv => whnf))
      | ((with_reducible refine @And.intro (@LE.le Nat _ _ _) _ ?_ ?_); (· (first | exact Nat.zero_le _ | exact Nat.le_of_ble_eq_true rfl | omega)); (conv => whnf))
      | ((with_reducible refine @And.intro (@LT.lt Nat _ _ _) _ ?_ ?_); (· omega); (conv => whnf))
      | ((with_reducible refine @And.intro (∃ _, _ = _) _ ?_ ?_); (· exact ⟨_, rfl⟩); (conv => whnf))
      | ((with_reducible refine @And.intro (_ ∨ _) _ ?_ ?_); (· (first | exact Or.inl rfl | exact Or.inr rfl | exact t_b01 _ | assumption)); (conv => whnf))
      | ((with_reducible refine @And.intro (¬ (_ = _)) _ ?_ ?_); (· first | assumption | (with_reducible assumption)); (conv => whnf))
      | (refine hX _ _ _ _ _ _ ?_; (conv => whnf); fail_if_success show False)
      | (rw [t_si]; (conv => whnf))
      | (refine ⟨_, rfl, ?_⟩; (conv => whnf))
      | (refine ⟨_, _, rfl, ?_⟩; (conv => whnf))
      | (refine ⟨_, _, _, rfl, ?_⟩; (conv => whnf))
      | (refine ⟨_, _, _, _, rfl, ?_⟩; (conv => whnf))
      | (refine And.intro (fun c => ?_) (fun c => ?_) <;> (first | (exact absurd c (by decide +kernel)) | (conv => whnf)))
      | fail)
    have hM := hM.tr hJ
    cases hq : p_born f n F (100 + f_h F) k with
    | inl e =>
      rw [hq] at hR ho
      exact e374 0 (by decide) J _ _ _ e hM ho hR
    | inr e =>
      obtain ⟨F2, k2⟩ := e
      have hro := hrow _ _ hq
      have e11 := p_born_11 hq (by omega)
      have ef := f_eq e11
      rw [hq] at hR ho
      have hh := hF.1
      rw [← e11, ← ef.1] at hh
      rw [← ef.1] at hro hx
      exact b374 0 (by decide) J _ _ _ _ _ _ hM ho.1 (by rw [ho.2.h]) (ho.2.m0 hh hx hro) hR
  have c1 : ∀ M F k, t_rf I M → t_ps M n (.inr k) → t_rea M F → t_fok F → f_p F < 8 → p_bd (p_body f n F 1 k) (fun F k => p_sg f n F k) = R → X 170 [some (.ref 0), some (.int (nI 1)), none, none, none] [] (tW M) 0 0 := by
    clear hp hr hF h5n h4 hk hR
    intro M F k hM hp hr hF hx hR
    have htM := hM.tx ht
    obtain ⟨h5n, h4, hk⟩ := t_ps_n hp
    have h5 := t_ps_0 hp
    have hR : p_bd (p_bd (p_pupt f n F (120 + f_p F) k) fun F k => .inr (p_more F 1, k)) (fun F k => p_sg f n F k) = R := hR
    have e0 : (tW M).2.1 11 (Int32.ofInt 1).toNatClampNeg = nI (f_p F) := hr.p.trans hF.2.2.1
    have hb0 : 120 + f_p F ≠ 0 := by omega
    have hb9 : 120 + f_p F ≠ 9 := by omega
    have hrr : t_rr (120 + f_p F) := by unfold t_rr; omega
    refine hG _ _ _ _ _ _ ?_
    (conv => whnf)
    repeat' (first
      | ((with_reducible refine @And.intro (vp_in _ _) _ ?_ ?_); (· (first | with_reducible assumption | ((with_reducible refine t_vin ?_); decide) | ((with_reducible refine vp_in_nI ?_ ?_) <;> first | omega | decide) | (simp (disch := omega) only [xl_n, xl_m, nI_dec, nI_sb, nI_add, pk_mul]; (with_reducible refine vp_in_nI ?_ ?_) <;> first | omega | decide))); (conv => whnf))
      | (refine And.intro (by first | with_reducible assumption | exact (show tL _ = _ from rfl) | decide) ?_; (conv => whnf))
      | ((with_reducible refine @And.intro (_ = _) _ ?_ ?_); (· rfl); (conv => whnf))
      | ((with_reducible refine @And.intro (@LE.le Nat _ _ _) _ ?_ ?_); (· (first | exact Nat.zero_le _ | exact Nat.le_of_ble_eq_true rfl | omega)); (conv => whnf))
      | ((with_reducible refine @And.intro (@LT.lt Nat _ _ _) _ ?_ ?_); (· omega); (conv => whnf))
      | ((with_reducible refine @And.intro (∃ _, _ = _) _ ?_ ?_); (· exact ⟨_, rfl⟩); (conv => whnf))
      | ((with_reducible refine @And.intro (_ ∨ _) _ ?_ ?_); (· (first | exact Or.inl rfl | exact Or.inr rfl | exact t_b01 _ | assumption)); (conv => whnf))
      | ((with_reducible refine @And.intro (¬ (_ = _)) _ ?_ ?_); (· first | assumption | (with_reducible assumption)); (conv => whnf))
      | (refine hX _ _ _ _ _ _ ?_; (conv => whnf); fail_if_success show False)
      | (rw [t_si]; (conv => whnf))
      | (refine ⟨_, rfl, ?_⟩; (conv => whnf))
      | (refine ⟨_, _, rfl, ?_⟩; (conv => whnf))
      | (refine ⟨_, _, _, rfl, ?_⟩; (conv => whnf))
      | (refine ⟨_, _, _, _, rfl, ?_⟩; (conv => whnf))
      | (rw [e0]; (conv => whnf))
      | (refine ⟨_, _, (by with_reducible assumption), ?_⟩; (conv => whnf))
      | (refine ⟨_, (by first | with_reducible assumption | exact rfl), ?_⟩; (conv => whnf))
      | (refine And.intro (fun c => ?_) (fun c => ?_) <;> (first | (exact absurd c (by decide +kernel)) | (exact absurd c (by assumption)) | (exact False.elim (c (by assumption))) | (conv => whnf)))
      | fail)
    intro J hJ hps
    simp only [xl_n] at hps ⊢
    have htJ := t_tx_u (k := 0) (v := p_v (p_go (.inr k) (p_number f n (nI 0) (nI 15)))) (hJ.tx htM) hb0 hb9
    have hpJ := t_ps_u (k := 0) (v := p_v (p_go (.inr k) (p_number f n (nI 0) (nI 15)))) hps hb0
    (conv => whnf)
    repeat' (first
      | ((with_reducible refine @And.intro (vp_in _ _) _ ?_ ?_); (· (first | with_reducible assumption | ((with_reducible refine t_vin ?_); decide) | ((with_reducible refine vp_in_nI ?_ ?_) <;> first | omega | decide) | (simp (disch := omega) only [xl_n, xl_m, nI_dec, nI_sb, nI_add, pk_mul]; (with_reducible refine vp_in_nI ?_ ?_) <;> first | omega | decide))); (conv => whnf))
      | (refine And.intro (by first | with_reducible assumption | exact (show tL _ = _ from rfl) | decide) ?_; (conv => whnf))
      | ((with_reducible refine @And.intro (_ = _) _ ?_ ?_); (· rfl); (conv => whnf))
      | ((with_reducible refine @And.intro (@LE.le Nat _ _ _) _ ?_ ?_); (· (first | exact Nat.zero_le _ | exact Nat.le_of_ble_eq_true rfl | omega)); (conv => whnf))
      | ((with_reducible refine @And.intro (@LT.lt Nat _ _ _) _ ?_ ?_); (· omega); (conv => whnf))
      | ((with_reducible refine @And.intro (∃ _, _ = _) _ ?_ ?_); (· exact ⟨_, rfl⟩); (conv => whnf))
      | ((with_reducible refine @And.intro (_ ∨ _) _ ?_ ?_); (· (first | exact Or.inl rfl | exact Or.inr rfl | exact t_b01 _ | assumption)); (conv => whnf))
      | ((with_reducible refine @And.intro (¬ (_ = _)) _ ?_ ?_); (· first | assumption | (with_reducible assumption)); (conv => whnf))
      | (refine hX _ _ _ _ _ _ ?_; (conv => whnf); fail_if_success show False)
      | (rw [t_si]; simp (disch := omega) only [xl_n, xl_m, nI_dec, nI_sb, xl_0, xl_1, tW_i, t_bn0, t_bn1, Classical.not_not, t_lt, nI_add, nI_1, pk_mul, nI_clamp, t_si, nI_eq, nI_leI, nM_ne, nM_ne, xm_u2_ne, xm_u2_at, reduceIte, tK_u, tA_u, Nat.reduceEqDiff]; (conv => whnf))
      | (refine ⟨_, rfl, ?_⟩; (conv => whnf))
      | (refine ⟨_, _, rfl, ?_⟩; (conv => whnf))
      | (refine ⟨_, _, _, rfl, ?_⟩; (conv => whnf))
      | (refine ⟨_, _, _, _, rfl, ?_⟩; (conv => whnf))
      | (rw [t_l120 (by first | with_reducible assumption | omega | exact vp_lt (by assumption) | (rw [nI_clamp (by omega)]; omega))]; (conv => whnf))
      | (refine ⟨_, _, (by with_reducible assumption), ?_⟩; (conv => whnf))
      | (refine ⟨_, (by first | with_reducible assumption | exact rfl), ?_⟩; (conv => whnf))
      | (refine And.intro (fun c => ?_) (fun c => ?_) <;> (first | (exact absurd c (by decide +kernel)) | (exact absurd c (by assumption)) | (exact False.elim (c (by assumption))) | (conv => whnf)))
      | fail)
    intro J2 hJ2 hps2
    (conv => whnf)
    have htJ2 := t_tx_u (k := 1) (v := p_v (p_go (p_st (p_go (.inr k) (p_number f n (nI 0) (nI 15)))) (p_number f n (nI 1) (nI 2)))) (hJ2.tx htJ) hb0 hb9
    have hpJ2 := t_ps_u (k := 1) (v := p_v (p_go (p_st (p_go (.inr k) (p_number f n (nI 0) (nI 15)))) (p_number f n (nI 1) (nI 2)))) hps2 hb0
    repeat' (first
      | ((with_reducible refine @And.intro (vp_in _ _) _ ?_ ?_); (· (first | with_reducible assumption | ((with_reducible refine t_vin ?_); decide) | ((with_reducible refine vp_in_nI ?_ ?_) <;> first | omega | decide) | (simp (disch := omega) only [xl_n, xl_m, nI_dec, nI_sb, nI_add, pk_mul]; (with_reducible refine vp_in_nI ?_ ?_) <;> first | omega | decide))); (conv => whnf))
      | (refine And.intro (by first | with_reducible assumption | exact (show tL _ = _ from rfl) | decide) ?_; (conv => whnf))
      | ((with_reducible refine @And.intro (_ = _) _ ?_ ?_); (· rfl); (conv => whnf))
      | ((with_reducible refine @And.intro (@LE.le Nat _ _ _) _ ?_ ?_); (· (first | exact Nat.zero_le _ | exact Nat.le_of_ble_eq_true rfl | omega)); (conv => whnf))
      | ((with_reducible refine @And.intro (@LT.lt Nat _ _ _) _ ?_ ?_); (· omega); (conv => whnf))
      | ((with_reducible refine @And.intro (∃ _, _ = _) _ ?_ ?_); (· exact ⟨_, rfl⟩); (conv => whnf))
      | ((with_reducible refine @And.intro (_ ∨ _) _ ?_ ?_); (· (first | exact Or.inl rfl | exact Or.inr rfl | exact t_b01 _ | assumption)); (conv => whnf))
      | ((with_reducible refine @And.intro (¬ (_ = _)) _ ?_ ?_); (· first | assumption | (with_reducible assumption)); (conv => whnf))
      | (refine hX _ _ _ _ _ _ ?_; (conv => whnf); fail_if_success show False)
      | (rw [t_si]; simp (disch := omega) only [xl_n, xl_m, nI_dec, nI_sb, xl_0, xl_1, tW_i, t_bn0, t_bn1, Classical.not_not, t_lt, nI_add, nI_1, pk_mul, nI_clamp, t_si, nI_eq, nI_leI, nM_ne, nM_ne, xm_u2_ne, xm_u2_at, reduceIte, tK_u, tA_u, Nat.reduceEqDiff]; (conv => whnf))
      | (refine ⟨_, rfl, ?_⟩; (conv => whnf))
      | (refine ⟨_, _, rfl, ?_⟩; (conv => whnf))
      | (refine ⟨_, _, _, rfl, ?_⟩; (conv => whnf))
      | (refine ⟨_, _, _, _, rfl, ?_⟩; (conv => whnf))
      | (rw [t_l120 (by first | with_reducible assumption | omega | exact vp_lt (by assumption) | (rw [nI_clamp (by omega)]; omega))]; (conv => whnf))
      | (refine ⟨_, _, (by with_reducible assumption), ?_⟩; (conv => whnf))
      | (refine ⟨_, (by first | with_reducible assumption | exact rfl), ?_⟩; (conv => whnf))
      | (refine And.intro (fun c => ?_) (fun c => ?_) <;> (first | (exact absurd c (by decide +kernel)) | (exact absurd c (by assumption)) | (exact False.elim (c (by assumption))) | (conv => whnf)))
      | fail)
    intro J3 hJ3 hps3
    (conv => whnf)
    have hpJ3 := t_ps_u (k := 2) (v := p_v (p_go (p_st (p_go (p_st (p_go (.inr k) (p_number f n (nI 0) (nI 15)))) (p_number f n (nI 1) (nI 2)))) (p_number f n (nI 0) (nI 30)))) hps3 hb0
    clear htJ htJ2 hpJ hpJ2
    repeat' (first
      | ((with_reducible refine @And.intro (vp_in _ _) _ ?_ ?_); (· (first | with_reducible assumption | ((with_reducible refine t_vin ?_); decide) | ((with_reducible refine vp_in_nI ?_ ?_) <;> first | omega | decide) | (simp (disch := omega) only [xl_n, xl_m, nI_dec, nI_sb, nI_add, pk_mul]; (with_reducible refine vp_in_nI ?_ ?_) <;> first | omega | decide))); (conv => whnf))
      | (refine And.intro (by first | with_reducible assumption | exact (show tL _ = _ from rfl) | decide) ?_; (conv => whnf))
      | ((with_reducible refine @And.intro (_ = _) _ ?_ ?_); (· rfl); (conv => whnf))
      | ((with_reducible refine @And.intro (@LE.le Nat _ _ _) _ ?_ ?_); (· (first | exact Nat.zero_le _ | exact Nat.le_of_ble_eq_true rfl | omega)); (conv => whnf))
      | ((with_reducible refine @And.intro (@LT.lt Nat _ _ _) _ ?_ ?_); (· omega); (conv => whnf))
      | ((with_reducible refine @And.intro (∃ _, _ = _) _ ?_ ?_); (· exact ⟨_, rfl⟩); (conv => whnf))
      | ((with_reducible refine @And.intro (_ ∨ _) _ ?_ ?_); (· (first | exact Or.inl rfl | exact Or.inr rfl | exact t_b01 _ | assumption)); (conv => whnf))
      | ((with_reducible refine @And.intro (¬ (_ = _)) _ ?_ ?_); (· first | assumption | (with_reducible assumption)); (conv => whnf))
      | (refine hX _ _ _ _ _ _ ?_; (conv => whnf); fail_if_success show False)
      | (rw [t_si]; simp (disch := omega) only [xl_n, xl_m, nI_dec, nI_sb, xl_0, xl_1, tW_i, t_bn0, t_bn1, Classical.not_not, t_lt, nI_add, nI_1, pk_mul, nI_clamp, t_si, nI_eq, nI_leI, nM_ne, nM_ne, xm_u2_ne, xm_u2_at, reduceIte, tK_u, tA_u, Nat.reduceEqDiff]; (conv => whnf))
      | (refine ⟨_, rfl, ?_⟩; (conv => whnf))
      | (refine ⟨_, _, rfl, ?_⟩; (conv => whnf))
      | (refine ⟨_, _, _, rfl, ?_⟩; (conv => whnf))
      | (refine ⟨_, _, _, _, rfl, ?_⟩; (conv => whnf))
      | (rw [t_l120 (by first | with_reducible assumption | omega | exact vp_lt (by assumption) | (rw [nI_clamp (by omega)]; omega))]; (conv => whnf))
      | (refine ⟨_, _, (by with_reducible assumption), ?_⟩; (conv => whnf))
      | (refine ⟨_, (by first | with_reducible assumption | exact rfl), ?_⟩; (conv => whnf))
      | (refine And.intro (fun c => ?_) (fun c => ?_) <;> (first | (exact absurd c (by decide +kernel)) | (exact absurd c (by assumption)) | (exact False.elim (c (by assumption))) | (conv => whnf)))
      | fail)
    clear hX hG
    unfold p_pupt at hR
    have hM3 := ((((hM.tr hJ.r).w hrr).tr hJ2.r).w hrr).tr hJ3.r
    have hM4 := t_rf.w (k := 2) (v := p_v (p_go (p_st (p_go (p_st (p_go (.inr k) (p_number f n (nI 0) (nI 15)))) (p_number f n (nI 1) (nI 2)))) (p_number f n (nI 0) (nI 30)))) hM3 hrr
    cases h0 : p_go (.inr k) (p_number f n (nI 0) (nI 15)) with
    | inl e =>
      simp only [h0] at hpJ3 hM4 ⊢
      rw [show p_number f n (nI 0) (nI 15) k = .inl e from h0] at hR
      exact e374 1 (by decide) _ _ _ _ e hM4 hpJ3 hR
    | inr e0' =>
      obtain ⟨v0, k0⟩ := e0'
      simp only [h0] at hpJ3 hM4 hJ2 hJ3 ⊢
      rw [show p_number f n (nI 0) (nI 15) k = .inr (v0, k0) from h0] at hR
      have hR : p_bd (p_bd (p_bd (p_number f n (nI 1) (nI 2) k0) fun v1 k => p_bd (p_number f n (nI 0) (nI 30) k) fun v2 k => .inr (xm_u2 (xm_u2 (xm_u2 F (120 + f_p F) 0 v0) (120 + f_p F) 1 v1) (120 + f_p F) 2 v2, k)) fun F k => .inr (p_more F 1, k)) (fun F k => p_sg f n F k) = R := hR
      cases h1 : p_go (p_st (.inr (v0, k0))) (p_number f n (nI 1) (nI 2)) with
      | inl e =>
        simp only [h1] at hpJ3 hM4 ⊢
        rw [show p_number f n (nI 1) (nI 2) k0 = .inl e from h1] at hR
        exact e374 1 (by decide) _ _ _ _ e hM4 hpJ3 hR
      | inr e1' =>
        obtain ⟨v1, k1⟩ := e1'
        simp only [h1] at hpJ3 hM4 hJ3 ⊢
        rw [show p_number f n (nI 1) (nI 2) k0 = .inr (v1, k1) from h1] at hR
        have hR : p_bd (p_bd (p_bd (p_number f n (nI 0) (nI 30) k1) fun v2 k => .inr (xm_u2 (xm_u2 (xm_u2 F (120 + f_p F) 0 v0) (120 + f_p F) 1 v1) (120 + f_p F) 2 v2, k)) fun F k => .inr (p_more F 1, k)) (fun F k => p_sg f n F k) = R := hR
        cases h2 : p_go (p_st (.inr (v1, k1))) (p_number f n (nI 0) (nI 30)) with
        | inl e =>
          simp only [h2] at hpJ3 hM4 ⊢
          rw [show p_number f n (nI 0) (nI 30) k1 = .inl e from h2] at hR
          exact e374 1 (by decide) _ _ _ _ e hM4 hpJ3 hR
        | inr e2' =>
          obtain ⟨v2, k2⟩ := e2'
          simp only [h2] at hpJ3 hM4 ⊢
          rw [show p_number f n (nI 0) (nI 30) k1 = .inr (v2, k2) from h2] at hR
          have hR : p_sg f n (p_more (xm_u2 (xm_u2 (xm_u2 F (120 + f_p F) 0 v0) (120 + f_p F) 1 v1) (120 + f_p F) 2 v2) 1) k2 = R := hR
          have nb : 120 + f_p F ≠ 11 := by omega
          have nc : ¬ (140 ≤ 120 + f_p F ∧ 120 + f_p F < 146) := by omega
          have hrA := hJ3.d ((hJ2.d ((hJ.d hr).u (v := v0) (k := 0) (Or.inl nb) nc hF)).u (v := v1) (k := 1) (Or.inl nb) nc (hF.u nb))
          have hrB := hrA.u (v := v2) (k := 2) (Or.inl nb) nc ((hF.u nb).u nb)
          have e30 : ∀ i, i < 3 → xm_u2 J3 (120 + f_p F) 2 v2 (120 + f_p F) i = xm_u2 (xm_u2 (xm_u2 F (120 + f_p F) 0 v0) (120 + f_p F) 1 v1) (120 + f_p F) 2 v2 (120 + f_p F) i := by
            intro i hi
            have q3 : J3 (120 + f_p F) i = xm_u2 J2 (120 + f_p F) 1 v1 (120 + f_p F) i := congrFun (hJ3.1 _ hb0) i
            have q2 : J2 (120 + f_p F) i = xm_u2 J (120 + f_p F) 0 v0 (120 + f_p F) i := congrFun (hJ2.1 _ hb0) i
            rw [xm_u2_at, xm_u2_at, q3, xm_u2_at, q2, xm_u2_at, xm_u2_at, xm_u2_at]
            match i, hi with
            | 0, _ => rfl
            | 1, _ => rfl
            | 2, _ => rfl
          have e11 : ∀ j, xm_u2 (xm_u2 (xm_u2 F (120 + f_p F) 0 v0) (120 + f_p F) 1 v1) (120 + f_p F) 2 v2 11 j = F 11 j := fun j => by rw [xm_u2_ne nb.symm, xm_u2_ne nb.symm, xm_u2_ne nb.symm]
          have ef := f_eq e11
          exact b374 1 (by decide) _ _ _ _ _ _ _ hM4 hpJ3 (congrArg (fun x => x + nI 1) hrB.p) (hrB.m1 (by rw [e11, ef.2.1]; exact hF.2.2.1) (by rw [ef.2.1]; exact hx) (by rw [ef.2.1]; exact e30)) hR
  have c2 : ∀ M F k, t_rf I M → t_ps M n (.inr k) → t_rea M F → t_fok F → f_a F < 6 → p_bd (p_body f n F 2 k) (fun F k => p_sg f n F k) = R → X 214 [some (.ref 0), some (.int (nI 2)), none, none, none] [] (tW M) 0 0 := by
    clear hp hr hF h5n h4 hk hR
    intro M F k hM hp hr hF hx hR
    have htM := hM.tx ht
    obtain ⟨h5n, h4, hk⟩ := t_ps_n hp
    have h5 := t_ps_0 hp
    have hR : p_bd (p_bd (p_act f n F (140 + f_a F) k) fun F k => .inr (p_more F 2, k)) (fun F k => p_sg f n F k) = R := hR
    have e0 : (tW M).2.1 11 (Int32.ofInt 2).toNatClampNeg = nI (f_a F) := hr.a.trans hF.2.2.2.2.1
    refine hG _ _ _ _ _ _ ?_
    (conv => whnf)
    repeat' (first
      | (refine ⟨f_a F, congrArg (fun x => [Value.ref 0, Value.ref (140 + x)]) (nI_clamp (by omega)), ?_⟩; (conv => whnf))
      | ((with_reducible refine @And.intro (vp_in _ _) _ ?_ ?_); (· (first | with_reducible assumption | ((with_reducible refine t_vin ?_); decide) | ((with_reducible refine vp_in_nI ?_ ?_) <;> first | omega | decide) | (simp (disch := omega) only [xl_n, xl_m, nI_dec, nI_sb, nI_add, pk_mul]; (with_reducible refine vp_in_nI ?_ ?_) <;> first | omega | decide))); (conv => whnf))
      | (refine And.intro (by first | with_reducible assumption | exact (show tL _ = _ from rfl) | decide) ?_; (conv => whnf))
      | ((with_reducible refine @And.intro (_ = _) _ ?_ ?_); (· rfl); (conv => whnf))
      | ((with_reducible refine @And.intro (@LE.le Nat _ _ _) _ ?_ ?_); (· (first | exact Nat.zero_le _ | exact Nat.le_of_ble_eq_true rfl | omega)); (conv => whnf))
      | ((with_reducible refine @And.intro (@LT.lt Nat _ _ _) _ ?_ ?_); (· omega); (conv => whnf))
      | ((with_reducible refine @And.intro (∃ _, _ = _) _ ?_ ?_); (· exact ⟨_, rfl⟩); (conv => whnf))
      | ((with_reducible refine @And.intro (_ ∨ _) _ ?_ ?_); (· (first | exact Or.inl rfl | exact Or.inr rfl | exact t_b01 _ | assumption)); (conv => whnf))
      | ((with_reducible refine @And.intro (¬ (_ = _)) _ ?_ ?_); (· first | assumption | (with_reducible assumption)); (conv => whnf))
      | (refine hX _ _ _ _ _ _ ?_; (conv => whnf); fail_if_success show False)
      | (rw [t_si]; (conv => whnf))
      | (refine ⟨_, rfl, ?_⟩; (conv => whnf))
      | (refine ⟨_, _, rfl, ?_⟩; (conv => whnf))
      | (refine ⟨_, _, _, rfl, ?_⟩; (conv => whnf))
      | (refine ⟨_, _, _, _, rfl, ?_⟩; (conv => whnf))
      | (rw [e0]; (conv => whnf))
      | (refine ⟨_, _, (by with_reducible assumption), ?_⟩; (conv => whnf))
      | (refine ⟨_, (by first | with_reducible assumption | exact rfl), ?_⟩; (conv => whnf))
      | (refine And.intro (fun c => ?_) (fun c => ?_) <;> (first | (exact absurd c (by decide +kernel)) | (exact absurd c (by assumption)) | (exact False.elim (c (by assumption))) | (conv => whnf)))
      | fail)
    intro J hJ ho hrow
    (conv => whnf)
    repeat' (first
      | ((with_reducible refine @And.intro (vp_in _ _) _ ?_ ?_); (· (first | with_reducible assumption | ((with_reducible refine t_vin ?_); decide) | ((with_reducible refine vp_in_nI ?_ ?_) <;> first | omega | decide) | (simp (disch := omega) only [xl_n, xl_m, nI_dec, nI_sb, nI_add, pk_mul]; (with_reducible refine vp_in_nI ?_ ?_) <;> first | omega | decide))); (conv => whnf))
      | (refine And.intro (by first | with_reducible assumption | exact (show tL _ = _ from rfl) | decide) ?_; (conv => whnf))
      | ((with_reducible refine @And.intro (_ = _) _ ?_ ?_); (· rfl); (conv => whnf))
      | ((with_reducible refine @And.intro (@LE.le Nat _ _ _) _ ?_ ?_); (· (first | exact Nat.zero_le _ | exact Nat.le_of_ble_eq_true rfl | omega)); (conv => whnf))
      | ((with_reducible refine @And.intro (@LT.lt Nat _ _ _) _ ?_ ?_); (· omega); (conv => whnf))
      | ((with_reducible refine @And.intro (∃ _, _ = _) _ ?_ ?_); (· exact ⟨_, rfl⟩); (conv => whnf))
      | ((with_reducible refine @And.intro (_ ∨ _) _ ?_ ?_); (· (first | exact Or.inl rfl | exact Or.inr rfl | exact t_b01 _ | assumption)); (conv => whnf))
      | ((with_reducible refine @And.intro (¬ (_ = _)) _ ?_ ?_); (· first | assumption | (with_reducible assumption)); (conv => whnf))
      | (refine hX _ _ _ _ _ _ ?_; (conv => whnf); fail_if_success show False)
      | (rw [t_si]; (conv => whnf))
      | (refine ⟨_, rfl, ?_⟩; (conv => whnf))
      | (refine ⟨_, _, rfl, ?_⟩; (conv => whnf))
      | (refine ⟨_, _, _, rfl, ?_⟩; (conv => whnf))
      | (refine ⟨_, _, _, _, rfl, ?_⟩; (conv => whnf))
      | (refine And.intro (fun c => ?_) (fun c => ?_) <;> (first | (exact absurd c (by decide +kernel)) | (conv => whnf)))
      | fail)
    have hM := hM.tr hJ
    cases hq : p_act f n F (140 + f_a F) k with
    | inl e =>
      rw [hq] at hR ho
      exact e374 2 (by decide) J _ _ _ e hM ho hR
    | inr e =>
      obtain ⟨F2, k2⟩ := e
      have hro := hrow _ _ hq
      have e11 := p_act_11 hq (by omega)
      have ef := f_eq e11
      rw [hq] at hR ho
      have hh := hF.2.2.2.2.1
      rw [← e11, ← ef.2.2] at hh
      obtain ⟨m, hm6, em, hro⟩ := hro
      rw [← ef.2.2] at hro hx em
      exact b374 2 (by decide) J _ _ _ _ _ _ hM ho.1 (by rw [ho.2.a]) (ho.2.m2 hh hx hm6 em hro) hR
  have c3 : ∀ M F k, t_rf I M → t_ps M n (.inr k) → t_rea M F → t_fok F → p_bd (p_body f n F 3 k) (fun F k => p_sg f n F k) = R → X 232 [some (.ref 0), some (.int (nI 3)), none, none, none] [] (tW M) 0 0 := by
    clear hp hr hF h5n h4 hk hR
    intro M F k hM hp hr hF hR
    have htM := hM.tx ht
    obtain ⟨h5n, h4, hk⟩ := t_ps_n hp
    have h5 := t_ps_0 hp
    have hR : p_bd (p_works f n F k) (fun F k => p_sg f n F k) = R := hR
    refine hG _ _ _ _ _ _ ?_
    (conv => whnf)
    repeat' (first
      | ((with_reducible refine @And.intro (vp_in _ _) _ ?_ ?_); (· (first | with_reducible assumption | ((with_reducible refine t_vin ?_); decide) | ((with_reducible refine vp_in_nI ?_ ?_) <;> first | omega | decide) | (simp (disch := omega) only [xl_n, xl_m, nI_dec, nI_sb, nI_add, pk_mul]; (with_reducible refine vp_in_nI ?_ ?_) <;> first | omega | decide))); (conv => whnf))
      | (refine And.intro (by first | with_reducible assumption | exact (show tL _ = _ from rfl) | decide) ?_; (conv => whnf))
      | ((with_reducible refine @And.intro (_ = _) _ ?_ ?_); (· rfl); (conv => whnf))
      | ((with_reducible refine @And.intro (@LE.le Nat _ _ _) _ ?_ ?_); (· (first | exact Nat.zero_le _ | exact Nat.le_of_ble_eq_true rfl | omega)); (conv => whnf))
      | ((with_reducible refine @And.intro (@LT.lt Nat _ _ _) _ ?_ ?_); (· omega); (conv => whnf))
      | ((with_reducible refine @And.intro (∃ _, _ = _) _ ?_ ?_); (· exact ⟨_, rfl⟩); (conv => whnf))
      | ((with_reducible refine @And.intro (_ ∨ _) _ ?_ ?_); (· (first | exact Or.inl rfl | exact Or.inr rfl | exact t_b01 _ | assumption)); (conv => whnf))
      | ((with_reducible refine @And.intro (¬ (_ = _)) _ ?_ ?_); (· first | assumption | (with_reducible assumption)); (conv => whnf))
      | (refine hX _ _ _ _ _ _ ?_; (conv => whnf); fail_if_success show False)
      | (rw [t_si]; (conv => whnf))
      | (refine ⟨_, rfl, ?_⟩; (conv => whnf))
      | (refine ⟨_, _, rfl, ?_⟩; (conv => whnf))
      | (refine ⟨_, _, _, rfl, ?_⟩; (conv => whnf))
      | (refine ⟨_, _, _, _, rfl, ?_⟩; (conv => whnf))
      | (refine ⟨_, _, (by with_reducible assumption), ?_⟩; (conv => whnf))
      | (refine ⟨_, (by first | with_reducible assumption | exact rfl), ?_⟩; (conv => whnf))
      | (refine And.intro (fun c => ?_) (fun c => ?_) <;> (first | (exact absurd c (by decide +kernel)) | (exact absurd c (by assumption)) | (exact False.elim (c (by assumption))) | (conv => whnf)))
      | fail)
    intro J hJ ho
    (conv => whnf)
    repeat' (first
      | ((with_reducible refine @And.intro (vp_in _ _) _ ?_ ?_); (· (first | with_reducible assumption | ((with_reducible refine t_vin ?_); decide) | ((with_reducible refine vp_in_nI ?_ ?_) <;> first | omega | decide) | (simp (disch := omega) only [xl_n, xl_m, nI_dec, nI_sb, nI_add, pk_mul]; (with_reducible refine vp_in_nI ?_ ?_) <;> first | omega | decide))); (conv => whnf))
      | (refine And.intro (by first | with_reducible assumption | exact (show tL _ = _ from rfl) | decide) ?_; (conv => whnf))
      | ((with_reducible refine @And.intro (_ = _) _ ?_ ?_); (· rfl); (conv => whnf))
      | ((with_reducible refine @And.intro (@LE.le Nat _ _ _) _ ?_ ?_); (· (first | exact Nat.zero_le _ | exact Nat.le_of_ble_eq_true rfl | omega)); (conv => whnf))
      | ((with_reducible refine @And.intro (@LT.lt Nat _ _ _) _ ?_ ?_); (· omega); (conv => whnf))
      | ((with_reducible refine @And.intro (∃ _, _ = _) _ ?_ ?_); (· exact ⟨_, rfl⟩); (conv => whnf))
      | ((with_reducible refine @And.intro (_ ∨ _) _ ?_ ?_); (· (first | exact Or.inl rfl | exact Or.inr rfl | exact t_b01 _ | assumption)); (conv => whnf))
      | ((with_reducible refine @And.intro (¬ (_ = _)) _ ?_ ?_); (· first | assumption | (with_reducible assumption)); (conv => whnf))
      | (refine hX _ _ _ _ _ _ ?_; (conv => whnf); fail_if_success show False)
      | (rw [t_si]; (conv => whnf))
      | (refine ⟨_, rfl, ?_⟩; (conv => whnf))
      | (refine ⟨_, _, rfl, ?_⟩; (conv => whnf))
      | (refine ⟨_, _, _, rfl, ?_⟩; (conv => whnf))
      | (refine ⟨_, _, _, _, rfl, ?_⟩; (conv => whnf))
      | (refine And.intro (fun c => ?_) (fun c => ?_) <;> (first | (exact absurd c (by decide +kernel)) | (conv => whnf)))
      | fail)
    have hM := hM.tr hJ
    cases hq : p_works f n F k with
    | inl e =>
      rw [hq] at hR ho
      exact e374 3 (by decide) J _ _ _ e hM ho hR
    | inr e =>
      obtain ⟨F2, k2⟩ := e
      rw [hq] at hR ho
      exact a374 3 (by decide) (by decide) J F2 k2 _ _ _ hM ho.1 ho.2 hR
  have c4 : ∀ M F k, t_rf I M → t_ps M n (.inr k) → t_rea M F → t_fok F → p_bd (p_body f n F 4 k) (fun F k => p_sg f n F k) = R → X 239 [some (.ref 0), some (.int (nI 4)), none, none, none] [] (tW M) 0 0 := by
    clear hp hr hF h5n h4 hk hR
    intro M F k hM hp hr hF hR
    have htM := hM.tx ht
    obtain ⟨h5n, h4, hk⟩ := t_ps_n hp
    have h5 := t_ps_0 hp
    have hR : p_bd (p_quarrel f n F k) (fun F k => p_sg f n F k) = R := hR
    refine hG _ _ _ _ _ _ ?_
    (conv => whnf)
    repeat' (first
      | ((with_reducible refine @And.intro (vp_in _ _) _ ?_ ?_); (· (first | with_reducible assumption | ((with_reducible refine t_vin ?_); decide) | ((with_reducible refine vp_in_nI ?_ ?_) <;> first | omega | decide) | (simp (disch := omega) only [xl_n, xl_m, nI_dec, nI_sb, nI_add, pk_mul]; (with_reducible refine vp_in_nI ?_ ?_) <;> first | omega | decide))); (conv => whnf))
      | (refine And.intro (by first | with_reducible assumption | exact (show tL _ = _ from rfl) | decide) ?_; (conv => whnf))
      | ((with_reducible refine @And.intro (_ = _) _ ?_ ?_); (· rfl); (conv => whnf))
      | ((with_reducible refine @And.intro (@LE.le Nat _ _ _) _ ?_ ?_); (· (first | exact Nat.zero_le _ | exact Nat.le_of_ble_eq_true rfl | omega)); (conv => whnf))
      | ((with_reducible refine @And.intro (@LT.lt Nat _ _ _) _ ?_ ?_); (· omega); (conv => whnf))
      | ((with_reducible refine @And.intro (∃ _, _ = _) _ ?_ ?_); (· exact ⟨_, rfl⟩); (conv => whnf))
      | ((with_reducible refine @And.intro (_ ∨ _) _ ?_ ?_); (· (first | exact Or.inl rfl | exact Or.inr rfl | exact t_b01 _ | assumption)); (conv => whnf))
      | ((with_reducible refine @And.intro (¬ (_ = _)) _ ?_ ?_); (· first | assumption | (with_reducible assumption)); (conv => whnf))
      | (refine hX _ _ _ _ _ _ ?_; (conv => whnf); fail_if_success show False)
      | (rw [t_si]; (conv => whnf))
      | (refine ⟨_, rfl, ?_⟩; (conv => whnf))
      | (refine ⟨_, _, rfl, ?_⟩; (conv => whnf))
      | (refine ⟨_, _, _, rfl, ?_⟩; (conv => whnf))
      | (refine ⟨_, _, _, _, rfl, ?_⟩; (conv => whnf))
      | (refine ⟨_, _, (by with_reducible assumption), ?_⟩; (conv => whnf))
      | (refine ⟨_, (by first | with_reducible assumption | exact rfl), ?_⟩; (conv => whnf))
      | (refine And.intro (fun c => ?_) (fun c => ?_) <;> (first | (exact absurd c (by decide +kernel)) | (exact absurd c (by assumption)) | (exact False.elim (c (by assumption))) | (conv => whnf)))
      | fail)
    intro J hJ ho
    (conv => whnf)
    repeat' (first
      | ((with_reducible refine @And.intro (vp_in _ _) _ ?_ ?_); (· (first | with_reducible assumption | ((with_reducible refine t_vin ?_); decide) | ((with_reducible refine vp_in_nI ?_ ?_) <;> first | omega | decide) | (simp (disch := omega) only [xl_n, xl_m, nI_dec, nI_sb, nI_add, pk_mul]; (with_reducible refine vp_in_nI ?_ ?_) <;> first | omega | decide))); (conv => whnf))
      | (refine And.intro (by first | with_reducible assumption | exact (show tL _ = _ from rfl) | decide) ?_; (conv => whnf))
      | ((with_reducible refine @And.intro (_ = _) _ ?_ ?_); (· rfl); (conv => whnf))
      | ((with_reducible refine @And.intro (@LE.le Nat _ _ _) _ ?_ ?_); (· (first | exact Nat.zero_le _ | exact Nat.le_of_ble_eq_true rfl | omega)); (conv => whnf))
      | ((with_reducible refine @And.intro (@LT.lt Nat _ _ _) _ ?_ ?_); (· omega); (conv => whnf))
      | ((with_reducible refine @And.intro (∃ _, _ = _) _ ?_ ?_); (· exact ⟨_, rfl⟩); (conv => whnf))
      | ((with_reducible refine @And.intro (_ ∨ _) _ ?_ ?_); (· (first | exact Or.inl rfl | exact Or.inr rfl | exact t_b01 _ | assumption)); (conv => whnf))
      | ((with_reducible refine @And.intro (¬ (_ = _)) _ ?_ ?_); (· first | assumption | (with_reducible assumption)); (conv => whnf))
      | (refine hX _ _ _ _ _ _ ?_; (conv => whnf); fail_if_success show False)
      | (rw [t_si]; (conv => whnf))
      | (refine ⟨_, rfl, ?_⟩; (conv => whnf))
      | (refine ⟨_, _, rfl, ?_⟩; (conv => whnf))
      | (refine ⟨_, _, _, rfl, ?_⟩; (conv => whnf))
      | (refine ⟨_, _, _, _, rfl, ?_⟩; (conv => whnf))
      | (refine And.intro (fun c => ?_) (fun c => ?_) <;> (first | (exact absurd c (by decide +kernel)) | (conv => whnf)))
      | fail)
    have hM := hM.tr hJ
    cases hq : p_quarrel f n F k with
    | inl e =>
      rw [hq] at hR ho
      exact e374 4 (by decide) J _ _ _ e hM ho hR
    | inr e =>
      obtain ⟨F2, k2⟩ := e
      rw [hq] at hR ho
      exact a374 4 (by decide) (by decide) J F2 k2 _ _ _ hM ho.1 ho.2 hR
  have c5 : ∀ M F k, t_rf I M → t_ps M n (.inr k) → t_rea M F → t_fok F → p_bd (p_body f n F 5 k) (fun F k => p_sg f n F k) = R → X 246 [some (.ref 0), some (.int (nI 5)), none, none, none] [] (tW M) 0 0 := by
    clear hp hr hF h5n h4 hk hR
    intro M F k hM hp hr hF hR
    have htM := hM.tx ht
    obtain ⟨h5n, h4, hk⟩ := t_ps_n hp
    have h5 := t_ps_0 hp
    have hR : p_bd (p_silent f n F k) (fun F k => p_sg f n F k) = R := hR
    unfold p_silent at hR
    have f17 : t_rr 17 := by unfold t_rr; omega
    refine hG _ _ _ _ _ _ ?_
    (conv => whnf)
    repeat' (first
      | ((with_reducible refine @And.intro (vp_in _ _) _ ?_ ?_); (· (first | with_reducible assumption | ((with_reducible refine t_vin ?_); decide) | ((with_reducible refine vp_in_nI ?_ ?_) <;> first | omega | decide) | (simp (disch := omega) only [xl_n, xl_m, nI_dec, nI_sb, nI_add, pk_mul]; (with_reducible refine vp_in_nI ?_ ?_) <;> first | omega | decide))); (conv => whnf))
      | (refine And.intro (by first | with_reducible assumption | exact (show tL _ = _ from rfl) | decide) ?_; (conv => whnf))
      | ((with_reducible refine @And.intro (_ = _) _ ?_ ?_); (· rfl); (conv => whnf))
      | ((with_reducible refine @And.intro (@LE.le Nat _ _ _) _ ?_ ?_); (· (first | exact Nat.zero_le _ | exact Nat.le_of_ble_eq_true rfl | omega)); (conv => whnf))
      | ((with_reducible refine @And.intro (@LT.lt Nat _ _ _) _ ?_ ?_); (· omega); (conv => whnf))
      | ((with_reducible refine @And.intro (∃ _, _ = _) _ ?_ ?_); (· exact ⟨_, rfl⟩); (conv => whnf))
      | ((with_reducible refine @And.intro (_ ∨ _) _ ?_ ?_); (· (first | exact Or.inl rfl | exact Or.inr rfl | exact t_b01 _ | assumption)); (conv => whnf))
      | ((with_reducible refine @And.intro (¬ (_ = _)) _ ?_ ?_); (· first | assumption | (with_reducible assumption)); (conv => whnf))
      | (refine hX _ _ _ _ _ _ ?_; (conv => whnf); fail_if_success show False)
      | (rw [t_si]; (conv => whnf))
      | (refine ⟨_, rfl, ?_⟩; (conv => whnf))
      | (refine ⟨_, _, rfl, ?_⟩; (conv => whnf))
      | (refine ⟨_, _, _, rfl, ?_⟩; (conv => whnf))
      | (refine ⟨_, _, _, _, rfl, ?_⟩; (conv => whnf))
      | (refine ⟨_, _, (by with_reducible assumption), ?_⟩; (conv => whnf))
      | (refine ⟨_, (by first | with_reducible assumption | exact rfl), ?_⟩; (conv => whnf))
      | (refine And.intro (fun c => ?_) (fun c => ?_) <;> (first | (exact absurd c (by decide +kernel)) | (exact absurd c (by assumption)) | (exact False.elim (c (by assumption))) | (conv => whnf)))
      | fail)
    intro J hJ hps
    have htJ := hJ.tx htM
    have hrJ := hJ.d hr
    have hMJ := hM.tr hJ.r
    rw [hr.h] at hps
    rw [hr.h]
    (conv => whnf)
    cases hr0 : p_go (.inr k) (p_number f n (nI 0) (F 11 0 - nI 1)) with
    | inl e =>
      rw [hr0] at hps
      rw [show p_number f n (nI 0) (F 11 0 - nI 1) k = .inl e from hr0] at hR
      have hps : t_ps J n (.inl e) := hps
      repeat' (first
        | ((with_reducible refine @And.intro (vp_in _ _) _ ?_ ?_); (· (first | with_reducible assumption | ((with_reducible refine t_vin ?_); decide) | ((with_reducible refine vp_in_nI ?_ ?_) <;> first | omega | decide) | (simp (disch := omega) only [xl_n, xl_m, nI_dec, nI_sb, nI_add, pk_mul]; (with_reducible refine vp_in_nI ?_ ?_) <;> first | omega | decide))); (conv => whnf))
        | (refine And.intro (by first | with_reducible assumption | exact (show tL _ = _ from rfl) | decide) ?_; (conv => whnf))
        | ((with_reducible refine @And.intro (_ = _) _ ?_ ?_); (· rfl); (conv => whnf))
        | ((with_reducible refine @And.intro (@LE.le Nat _ _ _) _ ?_ ?_); (· (first | exact Nat.zero_le _ | exact Nat.le_of_ble_eq_true rfl | omega)); (conv => whnf))
        | ((with_reducible refine @And.intro (@LT.lt Nat _ _ _) _ ?_ ?_); (· omega); (conv => whnf))
        | ((with_reducible refine @And.intro (∃ _, _ = _) _ ?_ ?_); (· exact ⟨_, rfl⟩); (conv => whnf))
        | ((with_reducible refine @And.intro (_ ∨ _) _ ?_ ?_); (· (first | exact Or.inl rfl | exact Or.inr rfl | exact t_b01 _ | assumption)); (conv => whnf))
        | ((with_reducible refine @And.intro (¬ (_ = _)) _ ?_ ?_); (· first | assumption | (with_reducible assumption)); (conv => whnf))
        | (refine hX _ _ _ _ _ _ ?_; (conv => whnf); fail_if_success show False)
        | (rw [t_si]; (conv => whnf))
        | (refine ⟨_, rfl, ?_⟩; (conv => whnf))
        | (refine ⟨_, _, rfl, ?_⟩; (conv => whnf))
        | (refine ⟨_, _, _, rfl, ?_⟩; (conv => whnf))
        | (refine ⟨_, _, _, _, rfl, ?_⟩; (conv => whnf))
        | (refine ⟨_, _, (by with_reducible assumption), ?_⟩; (conv => whnf))
        | (refine ⟨_, (by first | with_reducible assumption | exact rfl), ?_⟩; (conv => whnf))
        | (refine And.intro (fun c => ?_) (fun c => ?_) <;> (first | (exact absurd c (by decide +kernel)) | (exact absurd c (by assumption)) | (exact False.elim (c (by assumption))) | (conv => whnf)))
        | fail)
      intro J2 v hJ2 hps2 hv
      have hps2 : t_ps J2 n (.inl e) := hps2
      have h5 := t_ps_e hps2
      (conv => whnf)
      repeat' (first
        | ((with_reducible refine @And.intro (vp_in _ _) _ ?_ ?_); (· (first | with_reducible assumption | ((with_reducible refine t_vin ?_); decide) | ((with_reducible refine vp_in_nI ?_ ?_) <;> first | omega | decide) | (simp (disch := omega) only [xl_n, xl_m, nI_dec, nI_sb, nI_add, pk_mul]; (with_reducible refine vp_in_nI ?_ ?_) <;> first | omega | decide))); (conv => whnf))
        | (refine And.intro (by first | with_reducible assumption | exact (show tL _ = _ from rfl) | decide) ?_; (conv => whnf))
        | ((with_reducible refine @And.intro (_ = _) _ ?_ ?_); (· rfl); (conv => whnf))
        | ((with_reducible refine @And.intro (@LE.le Nat _ _ _) _ ?_ ?_); (· (first | exact Nat.zero_le _ | exact Nat.le_of_ble_eq_true rfl | omega)); (conv => whnf))
        | ((with_reducible refine @And.intro (@LT.lt Nat _ _ _) _ ?_ ?_); (· omega); (conv => whnf))
        | ((with_reducible refine @And.intro (∃ _, _ = _) _ ?_ ?_); (· exact ⟨_, rfl⟩); (conv => whnf))
        | ((with_reducible refine @And.intro (_ ∨ _) _ ?_ ?_); (· (first | exact Or.inl rfl | exact Or.inr rfl | exact t_b01 _ | assumption)); (conv => whnf))
        | ((with_reducible refine @And.intro (¬ (_ = _)) _ ?_ ?_); (· first | assumption | (with_reducible assumption)); (conv => whnf))
        | (refine hX _ _ _ _ _ _ ?_; (conv => whnf); fail_if_success show False)
        | (rw [t_si]; (conv => whnf))
        | (refine ⟨_, rfl, ?_⟩; (conv => whnf))
        | (refine ⟨_, _, rfl, ?_⟩; (conv => whnf))
        | (refine ⟨_, _, _, rfl, ?_⟩; (conv => whnf))
        | (refine ⟨_, _, _, _, rfl, ?_⟩; (conv => whnf))
        | (refine ⟨_, _, (by with_reducible assumption), ?_⟩; (conv => whnf))
        | (refine ⟨_, (by first | with_reducible assumption | exact rfl), ?_⟩; (conv => whnf))
        | (refine And.intro (fun c => ?_) (fun c => ?_) <;> (first | (exact absurd c (by decide +kernel)) | (exact absurd c (by assumption)) | (exact False.elim (c (by assumption))) | (conv => whnf)))
        | fail)
      exact e374 5 (by decide) J2 _ _ _ e (hMJ.tr hJ2.r) hps2 hR
    | inr e =>
      obtain ⟨v0, k0⟩ := e
      rw [hr0] at hps
      have hr0 : p_number f n (nI 0) (F 11 0 - nI 1) k = .inr (v0, k0) := hr0
      rw [hr0] at hR
      rw [hF.1] at hr0
      obtain ⟨h, eh, hh⟩ := p_number_n (by have := hF.2.1; omega) hk hr0
      have hk0 := (p_number_in hk hr0).2
      have hh9 : h < 9 := Nat.lt_of_lt_of_le hh hF.2.1
      have hv0 : vp_in v0 9 := by rw [eh]; exact vp_in_nI (by omega) (by omega)
      have hn0 : v0.toNatClampNeg < 9 := by rw [eh, nI_clamp (by omega)]; exact hh9
      have hps : t_ps J n (.inr k0) := hps
      rw [show p_v (.inr (v0, k0)) = v0 from rfl]
      repeat' (first
        | ((with_reducible refine @And.intro (vp_in _ _) _ ?_ ?_); (· (first | with_reducible assumption | ((with_reducible refine t_vin ?_); decide) | ((with_reducible refine vp_in_nI ?_ ?_) <;> first | omega | decide) | (simp (disch := omega) only [xl_n, xl_m, nI_dec, nI_sb, nI_add, pk_mul]; (with_reducible refine vp_in_nI ?_ ?_) <;> first | omega | decide))); (conv => whnf))
        | (refine And.intro (by first | with_reducible assumption | exact (show tL _ = _ from rfl) | decide) ?_; (conv => whnf))
        | ((with_reducible refine @And.intro (_ = _) _ ?_ ?_); (· rfl); (conv => whnf))
        | ((with_reducible refine @And.intro (@LE.le Nat _ _ _) _ ?_ ?_); (· (first | exact Nat.zero_le _ | exact Nat.le_of_ble_eq_true rfl | omega)); (conv => whnf))
        | ((with_reducible refine @And.intro (@LT.lt Nat _ _ _) _ ?_ ?_); (· omega); (conv => whnf))
        | ((with_reducible refine @And.intro (∃ _, _ = _) _ ?_ ?_); (· exact ⟨_, rfl⟩); (conv => whnf))
        | ((with_reducible refine @And.intro (_ ∨ _) _ ?_ ?_); (· (first | exact Or.inl rfl | exact Or.inr rfl | exact t_b01 _ | assumption)); (conv => whnf))
        | ((with_reducible refine @And.intro (¬ (_ = _)) _ ?_ ?_); (· first | assumption | (with_reducible assumption)); (conv => whnf))
        | (refine hX _ _ _ _ _ _ ?_; (conv => whnf); fail_if_success show False)
        | (rw [t_si]; (conv => whnf))
        | (refine ⟨_, rfl, ?_⟩; (conv => whnf))
        | (refine ⟨_, _, rfl, ?_⟩; (conv => whnf))
        | (refine ⟨_, _, _, rfl, ?_⟩; (conv => whnf))
        | (refine ⟨_, _, _, _, rfl, ?_⟩; (conv => whnf))
        | (refine ⟨_, _, (by with_reducible assumption), ?_⟩; (conv => whnf))
        | (refine ⟨_, (by first | with_reducible assumption | exact rfl), ?_⟩; (conv => whnf))
        | (refine And.intro (fun c => ?_) (fun c => ?_) <;> (first | (exact absurd c (by decide +kernel)) | (exact absurd c (by assumption)) | (exact False.elim (c (by assumption))) | (conv => whnf)))
        | fail)
      intro J2 v hJ2 hps2 hv
      rw [p_other_eq hrJ.h] at hps2 hv
      have hrJ2 := hJ2.d hrJ
      have hM2 := hMJ.tr hJ2.r
      (conv => whnf)
      cases hq : p_other f n F v0 k0 with
      | inl e =>
        have hR : p_bd (p_bd (p_other f n F v0 k0) fun g k => .inr (_, k)) (fun F k => p_sg f n F k) = R := hR
        rw [hq] at hR
        have hps2 : t_ps J2 n (p_st (p_other f n F v0 k0)) := hps2
        rw [hq] at hps2
        have hps2 : t_ps J2 n (.inl e) := hps2
        have h5 := t_ps_e hps2
        repeat' (first
          | ((with_reducible refine @And.intro (vp_in _ _) _ ?_ ?_); (· (first | with_reducible assumption | ((with_reducible refine t_vin ?_); decide) | ((with_reducible refine vp_in_nI ?_ ?_) <;> first | omega | decide) | (simp (disch := omega) only [xl_n, xl_m, nI_dec, nI_sb, nI_add, pk_mul]; (with_reducible refine vp_in_nI ?_ ?_) <;> first | omega | decide))); (conv => whnf))
          | (refine And.intro (by first | with_reducible assumption | exact (show tL _ = _ from rfl) | decide) ?_; (conv => whnf))
          | ((with_reducible refine @And.intro (_ = _) _ ?_ ?_); (· rfl); (conv => whnf))
          | ((with_reducible refine @And.intro (@LE.le Nat _ _ _) _ ?_ ?_); (· (first | exact Nat.zero_le _ | exact Nat.le_of_ble_eq_true rfl | omega)); (conv => whnf))
          | ((with_reducible refine @And.intro (@LT.lt Nat _ _ _) _ ?_ ?_); (· omega); (conv => whnf))
          | ((with_reducible refine @And.intro (∃ _, _ = _) _ ?_ ?_); (· exact ⟨_, rfl⟩); (conv => whnf))
          | ((with_reducible refine @And.intro (_ ∨ _) _ ?_ ?_); (· (first | exact Or.inl rfl | exact Or.inr rfl | exact t_b01 _ | assumption)); (conv => whnf))
          | ((with_reducible refine @And.intro (¬ (_ = _)) _ ?_ ?_); (· first | assumption | (with_reducible assumption)); (conv => whnf))
          | (refine hX _ _ _ _ _ _ ?_; (conv => whnf); fail_if_success show False)
          | (rw [t_si]; (conv => whnf))
          | (refine ⟨_, rfl, ?_⟩; (conv => whnf))
          | (refine ⟨_, _, rfl, ?_⟩; (conv => whnf))
          | (refine ⟨_, _, _, rfl, ?_⟩; (conv => whnf))
          | (refine ⟨_, _, _, _, rfl, ?_⟩; (conv => whnf))
          | (refine ⟨_, _, (by with_reducible assumption), ?_⟩; (conv => whnf))
          | (refine ⟨_, (by first | with_reducible assumption | exact rfl), ?_⟩; (conv => whnf))
          | (refine And.intro (fun c => ?_) (fun c => ?_) <;> (first | (exact absurd c (by decide +kernel)) | (exact absurd c (by assumption)) | (exact False.elim (c (by assumption))) | (conv => whnf)))
          | fail)
        exact e374 5 (by decide) J2 _ _ _ e hM2 hps2 hR
      | inr e =>
        obtain ⟨g, k2⟩ := e
        have hps2 : t_ps J2 n (p_st (p_other f n F v0 k0)) := hps2
        rw [hq] at hps2
        have hps2 : t_ps J2 n (.inr k2) := hps2
        have hv : v = g := hv g k2 hq
        subst hv
        have hR : p_bd (p_bd (p_other f n F v0 k0) fun g k => .inr (_, k)) (fun F k => p_sg f n F k) = R := hR
        rw [hq] at hR
        obtain ⟨g', eg, hg⟩ := p_other_n hF hk0 hq
        have hg9 : g' < 9 := Nat.lt_of_lt_of_le hg hF.2.1
        have hvg : vp_in v 9 := by rw [eg]; exact vp_in_nI (by omega) (by omega)
        have hng : v.toNatClampNeg < 9 := by rw [eg, nI_clamp (by omega)]; exact hg9
        have h5 := t_ps_0 hps2
        have e1 : J2 17 v0.toNatClampNeg = F 17 v0.toNatClampNeg := hrJ2 _ _ (f_in_17 hn0)
        clear hv hq
        have b1 : t_bit v.toNatClampNeg = nI 1 <<< (v &&& 31) := by rw [eg, nI_clamp (by omega)]; rfl
        have b2 : t_bit v0.toNatClampNeg = nI 1 <<< (v0 &&& 31) := by rw [eh, nI_clamp (by omega)]; rfl
        have hR : p_sg f n (xm_u2 (xm_u2 F 17 v0.toNatClampNeg (F 17 v0.toNatClampNeg ||| t_bit v.toNatClampNeg)) 17 v.toNatClampNeg (xm_u2 F 17 v0.toNatClampNeg (F 17 v0.toNatClampNeg ||| t_bit v.toNatClampNeg) 17 v.toNatClampNeg ||| t_bit v0.toNatClampNeg)) k2 = R := hR
        rw [b1, b2, ← e1] at hR
        have hrA := hrJ2.u (v := J2 17 v0.toNatClampNeg ||| nI 1 <<< (v &&& 31)) (b := 17) (k := v0.toNatClampNeg) (Or.inl (by decide)) (by omega) hF
        have e2 := hrA 17 v.toNatClampNeg (f_in_17 hng)
        rw [← e2] at hR
        have hrB := hrA.u (v := xm_u2 J2 17 v0.toNatClampNeg (J2 17 v0.toNatClampNeg ||| nI 1 <<< (v &&& 31)) 17 v.toNatClampNeg ||| nI 1 <<< (v0 &&& 31)) (b := 17) (k := v.toNatClampNeg) (Or.inl (by decide)) (by omega) (hF.u (by decide))
        have := fun o2 o3 o4 => a374 5 (by decide) (by decide) _ _ _ o2 o3 o4 ((hM2.w f17).w f17) (t_ps_u (t_ps_u hps2 (by decide)) (by decide)) hrB hR
        clear e374 a374 b374 hR
        repeat' (first
          | ((with_reducible refine @And.intro (vp_in _ _) _ ?_ ?_); (· (first | with_reducible assumption | ((with_reducible refine t_vin ?_); decide) | ((with_reducible refine vp_in_nI ?_ ?_) <;> first | omega | decide) | (simp (disch := omega) only [xl_n, xl_m, nI_dec, nI_sb, nI_add, pk_mul]; (with_reducible refine vp_in_nI ?_ ?_) <;> first | omega | decide))); (conv => whnf))
          | (refine And.intro (by first | with_reducible assumption | exact (show tL _ = _ from rfl) | decide) ?_; (conv => whnf))
          | ((with_reducible refine @And.intro (_ = _) _ ?_ ?_); (· rfl); (conv => whnf))
          | ((with_reducible refine @And.intro (@LE.le Nat _ _ _) _ ?_ ?_); (· (first | exact Nat.zero_le _ | exact Nat.le_of_ble_eq_true rfl | omega)); (conv => whnf))
          | ((with_reducible refine @And.intro (@LT.lt Nat _ _ _) _ ?_ ?_); (· omega); (conv => whnf))
          | ((with_reducible refine @And.intro (∃ _, _ = _) _ ?_ ?_); (· exact ⟨_, rfl⟩); (conv => whnf))
          | ((with_reducible refine @And.intro (_ ∨ _) _ ?_ ?_); (· (first | exact Or.inl rfl | exact Or.inr rfl | exact t_b01 _ | assumption)); (conv => whnf))
          | ((with_reducible refine @And.intro (¬ (_ = _)) _ ?_ ?_); (· first | assumption | (with_reducible assumption)); (conv => whnf))
          | (refine hX _ _ _ _ _ _ ?_; (conv => whnf); fail_if_success show False)
          | (rw [t_si]; (conv => whnf))
          | (refine ⟨_, rfl, ?_⟩; (conv => whnf))
          | (refine ⟨_, _, rfl, ?_⟩; (conv => whnf))
          | (refine ⟨_, _, _, rfl, ?_⟩; (conv => whnf))
          | (refine ⟨_, _, _, _, rfl, ?_⟩; (conv => whnf))
          | (refine ⟨_, _, (by with_reducible assumption), ?_⟩; (conv => whnf))
          | (refine ⟨_, (by first | with_reducible assumption | exact rfl), ?_⟩; (conv => whnf))
          | (refine And.intro (fun c => ?_) (fun c => ?_) <;> (first | (exact absurd c (by decide +kernel)) | (exact absurd c (by assumption)) | (exact False.elim (c (by assumption))) | (conv => whnf)))
          | fail)
        exact this _ _ _
  have c6 : ∀ M F k, t_rf I M → t_ps M n (.inr k) → t_rea M F → t_fok F → p_bd (p_body f n F 6 k) (fun F k => p_sg f n F k) = R → X 294 [some (.ref 0), some (.int (nI 6)), none, none, none] [] (tW M) 0 0 := by
    clear hp hr hF h5n h4 hk hR
    intro M F k hM hp hr hF hR
    have htM := hM.tx ht
    obtain ⟨h5n, h4, hk⟩ := t_ps_n hp
    have h5 := t_ps_0 hp
    have hR : p_bd (p_owes f n F k) (fun F k => p_sg f n F k) = R := hR
    unfold p_owes at hR
    refine hG _ _ _ _ _ _ ?_
    (conv => whnf)
    repeat' (first
      | ((with_reducible refine @And.intro (vp_in _ _) _ ?_ ?_); (· (first | with_reducible assumption | ((with_reducible refine t_vin ?_); decide) | ((with_reducible refine vp_in_nI ?_ ?_) <;> first | omega | decide) | (simp (disch := omega) only [xl_n, xl_m, nI_dec, nI_sb, nI_add, pk_mul]; (with_reducible refine vp_in_nI ?_ ?_) <;> first | omega | decide))); (conv => whnf))
      | (refine And.intro (by first | with_reducible assumption | exact (show tL _ = _ from rfl) | decide) ?_; (conv => whnf))
      | ((with_reducible refine @And.intro (_ = _) _ ?_ ?_); (· rfl); (conv => whnf))
      | ((with_reducible refine @And.intro (@LE.le Nat _ _ _) _ ?_ ?_); (· (first | exact Nat.zero_le _ | exact Nat.le_of_ble_eq_true rfl | omega)); (conv => whnf))
      | ((with_reducible refine @And.intro (@LT.lt Nat _ _ _) _ ?_ ?_); (· omega); (conv => whnf))
      | ((with_reducible refine @And.intro (∃ _, _ = _) _ ?_ ?_); (· exact ⟨_, rfl⟩); (conv => whnf))
      | ((with_reducible refine @And.intro (_ ∨ _) _ ?_ ?_); (· (first | exact Or.inl rfl | exact Or.inr rfl | exact t_b01 _ | assumption)); (conv => whnf))
      | ((with_reducible refine @And.intro (¬ (_ = _)) _ ?_ ?_); (· first | assumption | (with_reducible assumption)); (conv => whnf))
      | (refine hX _ _ _ _ _ _ ?_; (conv => whnf); fail_if_success show False)
      | (rw [t_si]; (conv => whnf))
      | (refine ⟨_, rfl, ?_⟩; (conv => whnf))
      | (refine ⟨_, _, rfl, ?_⟩; (conv => whnf))
      | (refine ⟨_, _, _, rfl, ?_⟩; (conv => whnf))
      | (refine ⟨_, _, _, _, rfl, ?_⟩; (conv => whnf))
      | (refine ⟨_, _, (by with_reducible assumption), ?_⟩; (conv => whnf))
      | (refine ⟨_, (by first | with_reducible assumption | exact rfl), ?_⟩; (conv => whnf))
      | (refine And.intro (fun c => ?_) (fun c => ?_) <;> (first | (exact absurd c (by decide +kernel)) | (exact absurd c (by assumption)) | (exact False.elim (c (by assumption))) | (conv => whnf)))
      | fail)
    intro J hJ hps
    have htJ := hJ.tx htM
    have hrJ := hJ.d hr
    have hMJ := hM.tr hJ.r
    rw [hr.h] at hps
    rw [hr.h]
    (conv => whnf)
    cases hr0 : p_go (.inr k) (p_number f n (nI 0) (F 11 0 - nI 1)) with
    | inl e =>
      rw [hr0] at hps
      rw [show p_number f n (nI 0) (F 11 0 - nI 1) k = .inl e from hr0] at hR
      have hps : t_ps J n (.inl e) := hps
      repeat' (first
        | ((with_reducible refine @And.intro (vp_in _ _) _ ?_ ?_); (· (first | with_reducible assumption | ((with_reducible refine t_vin ?_); decide) | ((with_reducible refine vp_in_nI ?_ ?_) <;> first | omega | decide) | (simp (disch := omega) only [xl_n, xl_m, nI_dec, nI_sb, nI_add, pk_mul]; (with_reducible refine vp_in_nI ?_ ?_) <;> first | omega | decide))); (conv => whnf))
        | (refine And.intro (by first | with_reducible assumption | exact (show tL _ = _ from rfl) | decide) ?_; (conv => whnf))
        | ((with_reducible refine @And.intro (_ = _) _ ?_ ?_); (· rfl); (conv => whnf))
        | ((with_reducible refine @And.intro (@LE.le Nat _ _ _) _ ?_ ?_); (· (first | exact Nat.zero_le _ | exact Nat.le_of_ble_eq_true rfl | omega)); (conv => whnf))
        | ((with_reducible refine @And.intro (@LT.lt Nat _ _ _) _ ?_ ?_); (· omega); (conv => whnf))
        | ((with_reducible refine @And.intro (∃ _, _ = _) _ ?_ ?_); (· exact ⟨_, rfl⟩); (conv => whnf))
        | ((with_reducible refine @And.intro (_ ∨ _) _ ?_ ?_); (· (first | exact Or.inl rfl | exact Or.inr rfl | exact t_b01 _ | assumption)); (conv => whnf))
        | ((with_reducible refine @And.intro (¬ (_ = _)) _ ?_ ?_); (· first | assumption | (with_reducible assumption)); (conv => whnf))
        | (refine hX _ _ _ _ _ _ ?_; (conv => whnf); fail_if_success show False)
        | (rw [t_si]; (conv => whnf))
        | (refine ⟨_, rfl, ?_⟩; (conv => whnf))
        | (refine ⟨_, _, rfl, ?_⟩; (conv => whnf))
        | (refine ⟨_, _, _, rfl, ?_⟩; (conv => whnf))
        | (refine ⟨_, _, _, _, rfl, ?_⟩; (conv => whnf))
        | (refine ⟨_, _, (by with_reducible assumption), ?_⟩; (conv => whnf))
        | (refine ⟨_, (by first | with_reducible assumption | exact rfl), ?_⟩; (conv => whnf))
        | (refine And.intro (fun c => ?_) (fun c => ?_) <;> (first | (exact absurd c (by decide +kernel)) | (exact absurd c (by assumption)) | (exact False.elim (c (by assumption))) | (conv => whnf)))
        | fail)
      intro J2 v hJ2 hps2 hv
      have hps2 : t_ps J2 n (.inl e) := hps2
      have htJ2 := hJ2.tx htJ
      (conv => whnf)
      repeat' (first
        | ((with_reducible refine @And.intro (vp_in _ _) _ ?_ ?_); (· (first | with_reducible assumption | ((with_reducible refine t_vin ?_); decide) | ((with_reducible refine vp_in_nI ?_ ?_) <;> first | omega | decide) | (simp (disch := omega) only [xl_n, xl_m, nI_dec, nI_sb, nI_add, pk_mul]; (with_reducible refine vp_in_nI ?_ ?_) <;> first | omega | decide))); (conv => whnf))
        | (refine And.intro (by first | with_reducible assumption | exact (show tL _ = _ from rfl) | decide) ?_; (conv => whnf))
        | ((with_reducible refine @And.intro (_ = _) _ ?_ ?_); (· rfl); (conv => whnf))
        | ((with_reducible refine @And.intro (@LE.le Nat _ _ _) _ ?_ ?_); (· (first | exact Nat.zero_le _ | exact Nat.le_of_ble_eq_true rfl | omega)); (conv => whnf))
        | ((with_reducible refine @And.intro (@LT.lt Nat _ _ _) _ ?_ ?_); (· omega); (conv => whnf))
        | ((with_reducible refine @And.intro (∃ _, _ = _) _ ?_ ?_); (· exact ⟨_, rfl⟩); (conv => whnf))
        | ((with_reducible refine @And.intro (_ ∨ _) _ ?_ ?_); (· (first | exact Or.inl rfl | exact Or.inr rfl | exact t_b01 _ | assumption)); (conv => whnf))
        | ((with_reducible refine @And.intro (¬ (_ = _)) _ ?_ ?_); (· first | assumption | (with_reducible assumption)); (conv => whnf))
        | (refine hX _ _ _ _ _ _ ?_; (conv => whnf); fail_if_success show False)
        | (rw [t_si]; (conv => whnf))
        | (refine ⟨_, rfl, ?_⟩; (conv => whnf))
        | (refine ⟨_, _, rfl, ?_⟩; (conv => whnf))
        | (refine ⟨_, _, _, rfl, ?_⟩; (conv => whnf))
        | (refine ⟨_, _, _, _, rfl, ?_⟩; (conv => whnf))
        | (refine ⟨_, _, (by with_reducible assumption), ?_⟩; (conv => whnf))
        | (refine ⟨_, (by first | with_reducible assumption | exact rfl), ?_⟩; (conv => whnf))
        | (refine And.intro (fun c => ?_) (fun c => ?_) <;> (first | (exact absurd c (by decide +kernel)) | (exact absurd c (by assumption)) | (exact False.elim (c (by assumption))) | (conv => whnf)))
        | fail)
      intro J3 hJ3 hps3
      have hps3 : t_ps J3 n (.inl e) := hps3
      have h5 := t_ps_e hps3
      (conv => whnf)
      repeat' (first
        | ((with_reducible refine @And.intro (vp_in _ _) _ ?_ ?_); (· (first | with_reducible assumption | ((with_reducible refine t_vin ?_); decide) | ((with_reducible refine vp_in_nI ?_ ?_) <;> first | omega | decide) | (simp (disch := omega) only [xl_n, xl_m, nI_dec, nI_sb, nI_add, pk_mul]; (with_reducible refine vp_in_nI ?_ ?_) <;> first | omega | decide))); (conv => whnf))
        | (refine And.intro (by first | with_reducible assumption | exact (show tL _ = _ from rfl) | decide) ?_; (conv => whnf))
        | ((with_reducible refine @And.intro (_ = _) _ ?_ ?_); (· rfl); (conv => whnf))
        | ((with_reducible refine @And.intro (@LE.le Nat _ _ _) _ ?_ ?_); (· (first | exact Nat.zero_le _ | exact Nat.le_of_ble_eq_true rfl | omega)); (conv => whnf))
        | ((with_reducible refine @And.intro (@LT.lt Nat _ _ _) _ ?_ ?_); (· omega); (conv => whnf))
        | ((with_reducible refine @And.intro (∃ _, _ = _) _ ?_ ?_); (· exact ⟨_, rfl⟩); (conv => whnf))
        | ((with_reducible refine @And.intro (_ ∨ _) _ ?_ ?_); (· (first | exact Or.inl rfl | exact Or.inr rfl | exact t_b01 _ | assumption)); (conv => whnf))
        | ((with_reducible refine @And.intro (¬ (_ = _)) _ ?_ ?_); (· first | assumption | (with_reducible assumption)); (conv => whnf))
        | (refine hX _ _ _ _ _ _ ?_; (conv => whnf); fail_if_success show False)
        | (rw [t_si]; (conv => whnf))
        | (refine ⟨_, rfl, ?_⟩; (conv => whnf))
        | (refine ⟨_, _, rfl, ?_⟩; (conv => whnf))
        | (refine ⟨_, _, _, rfl, ?_⟩; (conv => whnf))
        | (refine ⟨_, _, _, _, rfl, ?_⟩; (conv => whnf))
        | (refine ⟨_, _, (by with_reducible assumption), ?_⟩; (conv => whnf))
        | (refine ⟨_, (by first | with_reducible assumption | exact rfl), ?_⟩; (conv => whnf))
        | (refine And.intro (fun c => ?_) (fun c => ?_) <;> (first | (exact absurd c (by decide +kernel)) | (exact absurd c (by assumption)) | (exact False.elim (c (by assumption))) | (conv => whnf)))
        | fail)
      exact e374 6 (by decide) J3 _ _ _ e ((hMJ.tr hJ2.r).tr hJ3.r) hps3 hR
    | inr e =>
      obtain ⟨v0, k0⟩ := e
      rw [hr0] at hps
      have hr0 : p_number f n (nI 0) (F 11 0 - nI 1) k = .inr (v0, k0) := hr0
      rw [hr0] at hR
      rw [hF.1] at hr0
      obtain ⟨h, eh, hh⟩ := p_number_n (by have := hF.2.1; omega) hk hr0
      have hk0 := (p_number_in hk hr0).2
      have hh9 : h < 9 := Nat.lt_of_lt_of_le hh hF.2.1
      have hv0 : vp_in v0 9 := by rw [eh]; exact vp_in_nI (by omega) (by omega)
      have hn0 : v0.toNatClampNeg < 9 := by rw [eh, nI_clamp (by omega)]; exact hh9
      have hps : t_ps J n (.inr k0) := hps
      rw [show p_v (.inr (v0, k0)) = v0 from rfl]
      repeat' (first
        | ((with_reducible refine @And.intro (vp_in _ _) _ ?_ ?_); (· (first | with_reducible assumption | ((with_reducible refine t_vin ?_); decide) | ((with_reducible refine vp_in_nI ?_ ?_) <;> first | omega | decide) | (simp (disch := omega) only [xl_n, xl_m, nI_dec, nI_sb, nI_add, pk_mul]; (with_reducible refine vp_in_nI ?_ ?_) <;> first | omega | decide))); (conv => whnf))
        | (refine And.intro (by first | with_reducible assumption | exact (show tL _ = _ from rfl) | decide) ?_; (conv => whnf))
        | ((with_reducible refine @And.intro (_ = _) _ ?_ ?_); (· rfl); (conv => whnf))
        | ((with_reducible refine @And.intro (@LE.le Nat _ _ _) _ ?_ ?_); (· (first | exact Nat.zero_le _ | exact Nat.le_of_ble_eq_true rfl | omega)); (conv => whnf))
        | ((with_reducible refine @And.intro (@LT.lt Nat _ _ _) _ ?_ ?_); (· omega); (conv => whnf))
        | ((with_reducible refine @And.intro (∃ _, _ = _) _ ?_ ?_); (· exact ⟨_, rfl⟩); (conv => whnf))
        | ((with_reducible refine @And.intro (_ ∨ _) _ ?_ ?_); (· (first | exact Or.inl rfl | exact Or.inr rfl | exact t_b01 _ | assumption)); (conv => whnf))
        | ((with_reducible refine @And.intro (¬ (_ = _)) _ ?_ ?_); (· first | assumption | (with_reducible assumption)); (conv => whnf))
        | (refine hX _ _ _ _ _ _ ?_; (conv => whnf); fail_if_success show False)
        | (rw [t_si]; (conv => whnf))
        | (refine ⟨_, rfl, ?_⟩; (conv => whnf))
        | (refine ⟨_, _, rfl, ?_⟩; (conv => whnf))
        | (refine ⟨_, _, _, rfl, ?_⟩; (conv => whnf))
        | (refine ⟨_, _, _, _, rfl, ?_⟩; (conv => whnf))
        | (refine ⟨_, _, (by with_reducible assumption), ?_⟩; (conv => whnf))
        | (refine ⟨_, (by first | with_reducible assumption | exact rfl), ?_⟩; (conv => whnf))
        | (refine And.intro (fun c => ?_) (fun c => ?_) <;> (first | (exact absurd c (by decide +kernel)) | (exact absurd c (by assumption)) | (exact False.elim (c (by assumption))) | (conv => whnf)))
        | fail)
      intro J2 v hJ2 hps2 hv
      rw [p_other_eq hrJ.h] at hps2 hv
      have hrJ2 := hJ2.d hrJ
      have hM2 := hMJ.tr hJ2.r
      (conv => whnf)
      have htJ2 := hJ2.tx htJ
      have hR : p_bd (p_bd (p_other f n F v0 k0) fun g k => p_bd (p_number f n (nI 1) (nI 99) k) fun v k => .inr (xm_u2 F (160 + v0.toNatClampNeg) g.toNatClampNeg (t_less (nI 999) (F (160 + v0.toNatClampNeg) g.toNatClampNeg + v)), k)) (fun F k => p_sg f n F k) = R := hR
      have hps2 : t_ps J2 n (p_st (p_other f n F v0 k0)) := hps2
      have hv : ∀ g k', p_other f n F v0 k0 = .inr (g, k') → v = g := hv
      cases hq : p_other f n F v0 k0 with
      | inl e =>
        rw [hq] at hR
        rw [hq] at hps2
        replace hps2 : t_ps J2 n (.inl e) := hps2
        repeat' (first
          | ((with_reducible refine @And.intro (vp_in _ _) _ ?_ ?_); (· (first | with_reducible assumption | ((with_reducible refine t_vin ?_); decide) | ((with_reducible refine vp_in_nI ?_ ?_) <;> first | omega | decide) | (simp (disch := omega) only [xl_n, xl_m, nI_dec, nI_sb, nI_add, pk_mul]; (with_reducible refine vp_in_nI ?_ ?_) <;> first | omega | decide))); (conv => whnf))
          | (refine And.intro (by first | with_reducible assumption | exact (show tL _ = _ from rfl) | decide) ?_; (conv => whnf))
          | ((with_reducible refine @And.intro (_ = _) _ ?_ ?_); (· rfl); (conv => whnf))
          | ((with_reducible refine @And.intro (@LE.le Nat _ _ _) _ ?_ ?_); (· (first | exact Nat.zero_le _ | exact Nat.le_of_ble_eq_true rfl | omega)); (conv => whnf))
          | ((with_reducible refine @And.intro (@LT.lt Nat _ _ _) _ ?_ ?_); (· omega); (conv => whnf))
          | ((with_reducible refine @And.intro (∃ _, _ = _) _ ?_ ?_); (· exact ⟨_, rfl⟩); (conv => whnf))
          | ((with_reducible refine @And.intro (_ ∨ _) _ ?_ ?_); (· (first | exact Or.inl rfl | exact Or.inr rfl | exact t_b01 _ | assumption)); (conv => whnf))
          | ((with_reducible refine @And.intro (¬ (_ = _)) _ ?_ ?_); (· first | assumption | (with_reducible assumption)); (conv => whnf))
          | (refine hX _ _ _ _ _ _ ?_; (conv => whnf); fail_if_success show False)
          | (rw [t_si]; (conv => whnf))
          | (refine ⟨_, rfl, ?_⟩; (conv => whnf))
          | (refine ⟨_, _, rfl, ?_⟩; (conv => whnf))
          | (refine ⟨_, _, _, rfl, ?_⟩; (conv => whnf))
          | (refine ⟨_, _, _, _, rfl, ?_⟩; (conv => whnf))
          | (refine ⟨_, _, (by with_reducible assumption), ?_⟩; (conv => whnf))
          | (refine ⟨_, (by first | with_reducible assumption | exact rfl), ?_⟩; (conv => whnf))
          | (refine And.intro (fun c => ?_) (fun c => ?_) <;> (first | (exact absurd c (by decide +kernel)) | (exact absurd c (by assumption)) | (exact False.elim (c (by assumption))) | (conv => whnf)))
          | fail)
        intro J3 hJ3 hps3
        have hps3 : t_ps J3 n (.inl e) := hps3
        have h5 := t_ps_e hps3
        (conv => whnf)
        repeat' (first
          | ((with_reducible refine @And.intro (vp_in _ _) _ ?_ ?_); (· (first | with_reducible assumption | ((with_reducible refine t_vin ?_); decide) | ((with_reducible refine vp_in_nI ?_ ?_) <;> first | omega | decide) | (simp (disch := omega) only [xl_n, xl_m, nI_dec, nI_sb, nI_add, pk_mul]; (with_reducible refine vp_in_nI ?_ ?_) <;> first | omega | decide))); (conv => whnf))
          | (refine And.intro (by first | with_reducible assumption | exact (show tL _ = _ from rfl) | decide) ?_; (conv => whnf))
          | ((with_reducible refine @And.intro (_ = _) _ ?_ ?_); (· rfl); (conv => whnf))
          | ((with_reducible refine @And.intro (@LE.le Nat _ _ _) _ ?_ ?_); (· (first | exact Nat.zero_le _ | exact Nat.le_of_ble_eq_true rfl | omega)); (conv => whnf))
          | ((with_reducible refine @And.intro (@LT.lt Nat _ _ _) _ ?_ ?_); (· omega); (conv => whnf))
          | ((with_reducible refine @And.intro (∃ _, _ = _) _ ?_ ?_); (· exact ⟨_, rfl⟩); (conv => whnf))
          | ((with_reducible refine @And.intro (_ ∨ _) _ ?_ ?_); (· (first | exact Or.inl rfl | exact Or.inr rfl | exact t_b01 _ | assumption)); (conv => whnf))
          | ((with_reducible refine @And.intro (¬ (_ = _)) _ ?_ ?_); (· first | assumption | (with_reducible assumption)); (conv => whnf))
          | (refine hX _ _ _ _ _ _ ?_; (conv => whnf); fail_if_success show False)
          | (rw [t_si]; (conv => whnf))
          | (refine ⟨_, rfl, ?_⟩; (conv => whnf))
          | (refine ⟨_, _, rfl, ?_⟩; (conv => whnf))
          | (refine ⟨_, _, _, rfl, ?_⟩; (conv => whnf))
          | (refine ⟨_, _, _, _, rfl, ?_⟩; (conv => whnf))
          | (refine ⟨_, _, (by with_reducible assumption), ?_⟩; (conv => whnf))
          | (refine ⟨_, (by first | with_reducible assumption | exact rfl), ?_⟩; (conv => whnf))
          | (refine And.intro (fun c => ?_) (fun c => ?_) <;> (first | (exact absurd c (by decide +kernel)) | (exact absurd c (by assumption)) | (exact False.elim (c (by assumption))) | (conv => whnf)))
          | fail)
        exact e374 6 (by decide) J3 _ _ _ e (hM2.tr hJ3.r) hps3 hR
      | inr e =>
        obtain ⟨g, k2⟩ := e
        rw [hq] at hps2
        replace hps2 : t_ps J2 n (.inr k2) := hps2
        have hv : v = g := hv g k2 hq
        subst hv
        rw [hq] at hR
        have hR : p_bd (p_bd (p_number f n (nI 1) (nI 99) k2) fun x k => .inr (xm_u2 F (160 + v0.toNatClampNeg) v.toNatClampNeg (t_less (nI 999) (F (160 + v0.toNatClampNeg) v.toNatClampNeg + x)), k)) (fun F k => p_sg f n F k) = R := hR
        obtain ⟨g', eg, hg⟩ := p_other_n hF hk0 hq
        have hg9 : g' < 9 := Nat.lt_of_lt_of_le hg hF.2.1
        have hvg : vp_in v 9 := by rw [eg]; exact vp_in_nI (by omega) (by omega)
        have hng : v.toNatClampNeg < 9 := by rw [eg, nI_clamp (by omega)]; exact hg9
        clear hv hq
        repeat' (first
          | ((with_reducible refine @And.intro (vp_in _ _) _ ?_ ?_); (· (first | with_reducible assumption | ((with_reducible refine t_vin ?_); decide) | ((with_reducible refine vp_in_nI ?_ ?_) <;> first | omega | decide) | (simp (disch := omega) only [xl_n, xl_m, nI_dec, nI_sb, nI_add, pk_mul]; (with_reducible refine vp_in_nI ?_ ?_) <;> first | omega | decide))); (conv => whnf))
          | (refine And.intro (by first | with_reducible assumption | exact (show tL _ = _ from rfl) | decide) ?_; (conv => whnf))
          | ((with_reducible refine @And.intro (_ = _) _ ?_ ?_); (· rfl); (conv => whnf))
          | ((with_reducible refine @And.intro (@LE.le Nat _ _ _) _ ?_ ?_); (· (first | exact Nat.zero_le _ | exact Nat.le_of_ble_eq_true rfl | omega)); (conv => whnf))
          | ((with_reducible refine @And.intro (@LT.lt Nat _ _ _) _ ?_ ?_); (· omega); (conv => whnf))
          | ((with_reducible refine @And.intro (∃ _, _ = _) _ ?_ ?_); (· exact ⟨_, rfl⟩); (conv => whnf))
          | ((with_reducible refine @And.intro (_ ∨ _) _ ?_ ?_); (· (first | exact Or.inl rfl | exact Or.inr rfl | exact t_b01 _ | assumption)); (conv => whnf))
          | ((with_reducible refine @And.intro (¬ (_ = _)) _ ?_ ?_); (· first | assumption | (with_reducible assumption)); (conv => whnf))
          | (refine hX _ _ _ _ _ _ ?_; (conv => whnf); fail_if_success show False)
          | (rw [t_si]; (conv => whnf))
          | (refine ⟨_, rfl, ?_⟩; (conv => whnf))
          | (refine ⟨_, _, rfl, ?_⟩; (conv => whnf))
          | (refine ⟨_, _, _, rfl, ?_⟩; (conv => whnf))
          | (refine ⟨_, _, _, _, rfl, ?_⟩; (conv => whnf))
          | (refine ⟨_, _, (by with_reducible assumption), ?_⟩; (conv => whnf))
          | (refine ⟨_, (by first | with_reducible assumption | exact rfl), ?_⟩; (conv => whnf))
          | (refine And.intro (fun c => ?_) (fun c => ?_) <;> (first | (exact absurd c (by decide +kernel)) | (exact absurd c (by assumption)) | (exact False.elim (c (by assumption))) | (conv => whnf)))
          | fail)
        intro J3 hJ3 hps3
        simp only [xl_n] at hps3 ⊢
        have hrJ3 := hJ3.d hrJ2
        have hM3 := hM2.tr hJ3.r
        (conv => whnf)
        cases hn : p_go (.inr k2) (p_number f n (nI 1) (nI 99)) with
        | inl e =>
          rw [hn] at hps3
          rw [show p_number f n (nI 1) (nI 99) k2 = .inl e from hn] at hR
          have hps3 : t_ps J3 n (.inl e) := hps3
          have h5 := t_ps_e hps3
          repeat' (first
            | ((with_reducible refine @And.intro (vp_in _ _) _ ?_ ?_); (· (first | with_reducible assumption | ((with_reducible refine t_vin ?_); decide) | ((with_reducible refine vp_in_nI ?_ ?_) <;> first | omega | decide) | (simp (disch := omega) only [xl_n, xl_m, nI_dec, nI_sb, nI_add, pk_mul]; (with_reducible refine vp_in_nI ?_ ?_) <;> first | omega | decide))); (conv => whnf))
            | (refine And.intro (by first | with_reducible assumption | exact (show tL _ = _ from rfl) | decide) ?_; (conv => whnf))
            | ((with_reducible refine @And.intro (_ = _) _ ?_ ?_); (· rfl); (conv => whnf))
            | ((with_reducible refine @And.intro (@LE.le Nat _ _ _) _ ?_ ?_); (· (first | exact Nat.zero_le _ | exact Nat.le_of_ble_eq_true rfl | omega)); (conv => whnf))
            | ((with_reducible refine @And.intro (@LT.lt Nat _ _ _) _ ?_ ?_); (· omega); (conv => whnf))
            | ((with_reducible refine @And.intro (∃ _, _ = _) _ ?_ ?_); (· exact ⟨_, rfl⟩); (conv => whnf))
            | ((with_reducible refine @And.intro (_ ∨ _) _ ?_ ?_); (· (first | exact Or.inl rfl | exact Or.inr rfl | exact t_b01 _ | assumption)); (conv => whnf))
            | ((with_reducible refine @And.intro (¬ (_ = _)) _ ?_ ?_); (· first | assumption | (with_reducible assumption)); (conv => whnf))
            | (refine hX _ _ _ _ _ _ ?_; (conv => whnf); fail_if_success show False)
            | (rw [t_si]; (conv => whnf))
            | (refine ⟨_, rfl, ?_⟩; (conv => whnf))
            | (refine ⟨_, _, rfl, ?_⟩; (conv => whnf))
            | (refine ⟨_, _, _, rfl, ?_⟩; (conv => whnf))
            | (refine ⟨_, _, _, _, rfl, ?_⟩; (conv => whnf))
            | (refine ⟨_, _, (by with_reducible assumption), ?_⟩; (conv => whnf))
            | (refine ⟨_, (by first | with_reducible assumption | exact rfl), ?_⟩; (conv => whnf))
            | (refine And.intro (fun c => ?_) (fun c => ?_) <;> (first | (exact absurd c (by decide +kernel)) | (exact absurd c (by assumption)) | (exact False.elim (c (by assumption))) | (conv => whnf)))
            | fail)
          exact e374 6 (by decide) J3 _ _ _ e hM3 hps3 hR
        | inr e =>
          obtain ⟨x, k3⟩ := e
          rw [hn] at hps3
          rw [show p_number f n (nI 1) (nI 99) k2 = .inr (x, k3) from hn] at hR
          have hps3 : t_ps J3 n (.inr k3) := hps3
          have h5 := t_ps_0 hps3
          have hR : p_sg f n (xm_u2 F (160 + v0.toNatClampNeg) v.toNatClampNeg (t_less (nI 999) (F (160 + v0.toNatClampNeg) v.toNatClampNeg + x))) k3 = R := hR
          have e1 := hrJ3 _ _ (f_in_o hn0 hng)
          rw [← e1] at hR
          have hrB := hrJ3.u (b := 160 + v0.toNatClampNeg) (k := v.toNatClampNeg) (v := t_less (nI 999) (J3 (160 + v0.toNatClampNeg) v.toNatClampNeg + x)) (Or.inl (by omega)) (by omega) hF
          have hrr : t_rr (160 + v0.toNatClampNeg) := by unfold t_rr; omega
          have := fun o2 o3 o4 => a374 6 (by decide) (by decide) _ _ _ o2 o3 o4 (hM3.w hrr) (t_ps_u hps3 (by omega)) hrB hR
          clear e374 a374 b374 hR
          rw [show p_v (.inr (x, k3)) = x from rfl]
          repeat' (first
            | ((with_reducible refine @And.intro (vp_in _ _) _ ?_ ?_); (· (first | with_reducible assumption | ((with_reducible refine t_vin ?_); decide) | ((with_reducible refine vp_in_nI ?_ ?_) <;> first | omega | decide) | (simp (disch := omega) only [xl_n, xl_m, nI_dec, nI_sb, nI_add, pk_mul]; (with_reducible refine vp_in_nI ?_ ?_) <;> first | omega | decide))); (conv => whnf))
            | (refine And.intro (by first | with_reducible assumption | exact (show tL _ = _ from rfl) | decide) ?_; (conv => whnf))
            | ((with_reducible refine @And.intro (_ = _) _ ?_ ?_); (· rfl); (conv => whnf))
            | ((with_reducible refine @And.intro (@LE.le Nat _ _ _) _ ?_ ?_); (· (first | exact Nat.zero_le _ | exact Nat.le_of_ble_eq_true rfl | omega)); (conv => whnf))
            | ((with_reducible refine @And.intro (@LT.lt Nat _ _ _) _ ?_ ?_); (· omega); (conv => whnf))
            | ((with_reducible refine @And.intro (∃ _, _ = _) _ ?_ ?_); (· exact ⟨_, rfl⟩); (conv => whnf))
            | ((with_reducible refine @And.intro (_ ∨ _) _ ?_ ?_); (· (first | exact Or.inl rfl | exact Or.inr rfl | exact t_b01 _ | assumption)); (conv => whnf))
            | ((with_reducible refine @And.intro (¬ (_ = _)) _ ?_ ?_); (· first | assumption | (with_reducible assumption)); (conv => whnf))
            | (refine hX _ _ _ _ _ _ ?_; (conv => whnf); fail_if_success show False)
            | (rw [t_si]; (conv => whnf))
            | (refine ⟨_, rfl, ?_⟩; (conv => whnf))
            | (refine ⟨_, _, rfl, ?_⟩; (conv => whnf))
            | (refine ⟨_, _, _, rfl, ?_⟩; (conv => whnf))
            | (refine ⟨_, _, _, _, rfl, ?_⟩; (conv => whnf))
            | (rw [t_l160 (by first | with_reducible assumption | omega | exact vp_lt (by assumption) | (rw [nI_clamp (by omega)]; omega))]; (conv => whnf))
            | (refine ⟨_, _, (by with_reducible assumption), ?_⟩; (conv => whnf))
            | (refine ⟨_, (by first | with_reducible assumption | exact rfl), ?_⟩; (conv => whnf))
            | (refine And.intro (fun c => ?_) (fun c => ?_) <;> (first | (exact absurd c (by decide +kernel)) | (exact absurd c (by assumption)) | (exact False.elim (c (by assumption))) | (conv => whnf)))
            | fail)
          exact this _ _ _
  have c7 : ∀ M F k, t_rf I M → t_ps M n (.inr k) → t_rea M F → t_fok F → p_bd (p_body f n F 7 k) (fun F k => p_sg f n F k) = R → X 349 [some (.ref 0), some (.int (nI 7)), none, none, none] [] (tW M) 0 0 := by
    clear hp hr hF h5n h4 hk hR
    intro M F k hM hp hr hF hR
    have htM := hM.tx ht
    obtain ⟨h5n, h4, hk⟩ := t_ps_n hp
    have h5 := t_ps_0 hp
    have hR : p_bd (p_bd (p_number f n (nI 0) (nI 9) k) fun q k => .inr (xm_u2 F 11 3 q, k)) (fun F k => p_sg f n F k) = R := hR
    refine hG _ _ _ _ _ _ ?_
    (conv => whnf)
    repeat' (first
      | ((with_reducible refine @And.intro (vp_in _ _) _ ?_ ?_); (· (first | with_reducible assumption | ((with_reducible refine t_vin ?_); decide) | ((with_reducible refine vp_in_nI ?_ ?_) <;> first | omega | decide) | (simp (disch := omega) only [xl_n, xl_m, nI_dec, nI_sb, nI_add, pk_mul]; (with_reducible refine vp_in_nI ?_ ?_) <;> first | omega | decide))); (conv => whnf))
      | (refine And.intro (by first | with_reducible assumption | exact (show tL _ = _ from rfl) | decide) ?_; (conv => whnf))
      | ((with_reducible refine @And.intro (_ = _) _ ?_ ?_); (· rfl); (conv => whnf))
      | ((with_reducible refine @And.intro (@LE.le Nat _ _ _) _ ?_ ?_); (· (first | exact Nat.zero_le _ | exact Nat.le_of_ble_eq_true rfl | omega)); (conv => whnf))
      | ((with_reducible refine @And.intro (@LT.lt Nat _ _ _) _ ?_ ?_); (· omega); (conv => whnf))
      | ((with_reducible refine @And.intro (∃ _, _ = _) _ ?_ ?_); (· exact ⟨_, rfl⟩); (conv => whnf))
      | ((with_reducible refine @And.intro (_ ∨ _) _ ?_ ?_); (· (first | exact Or.inl rfl | exact Or.inr rfl | exact t_b01 _ | assumption)); (conv => whnf))
      | ((with_reducible refine @And.intro (¬ (_ = _)) _ ?_ ?_); (· first | assumption | (with_reducible assumption)); (conv => whnf))
      | (refine hX _ _ _ _ _ _ ?_; (conv => whnf); fail_if_success show False)
      | (rw [t_si]; (conv => whnf))
      | (refine ⟨_, rfl, ?_⟩; (conv => whnf))
      | (refine ⟨_, _, rfl, ?_⟩; (conv => whnf))
      | (refine ⟨_, _, _, rfl, ?_⟩; (conv => whnf))
      | (refine ⟨_, _, _, _, rfl, ?_⟩; (conv => whnf))
      | (refine ⟨_, _, (by with_reducible assumption), ?_⟩; (conv => whnf))
      | (refine ⟨_, (by first | with_reducible assumption | exact rfl), ?_⟩; (conv => whnf))
      | (refine And.intro (fun c => ?_) (fun c => ?_) <;> (first | (exact absurd c (by decide +kernel)) | (exact absurd c (by assumption)) | (exact False.elim (c (by assumption))) | (conv => whnf)))
      | fail)
    intro J hJ hps
    simp only [xl_n] at hps ⊢
    have hrJ := hJ.d hr
    have hM := hM.tr hJ.r
    (conv => whnf)
    cases hq : p_go (.inr k) (p_number f n (nI 0) (nI 9)) with
    | inl e =>
      rw [hq] at hps
      rw [show p_number f n (nI 0) (nI 9) k = .inl e from hq] at hR
      have hps : t_ps J n (.inl e) := hps
      have h5 := t_ps_e hps
      repeat' (first
        | ((with_reducible refine @And.intro (vp_in _ _) _ ?_ ?_); (· (first | with_reducible assumption | ((with_reducible refine t_vin ?_); decide) | ((with_reducible refine vp_in_nI ?_ ?_) <;> first | omega | decide) | (simp (disch := omega) only [xl_n, xl_m, nI_dec, nI_sb, nI_add, pk_mul]; (with_reducible refine vp_in_nI ?_ ?_) <;> first | omega | decide))); (conv => whnf))
        | (refine And.intro (by first | with_reducible assumption | exact (show tL _ = _ from rfl) | decide) ?_; (conv => whnf))
        | ((with_reducible refine @And.intro (_ = _) _ ?_ ?_); (· rfl); (conv => whnf))
        | ((with_reducible refine @And.intro (@LE.le Nat _ _ _) _ ?_ ?_); (· (first | exact Nat.zero_le _ | exact Nat.le_of_ble_eq_true rfl | omega)); (conv => whnf))
        | ((with_reducible refine @And.intro (@LT.lt Nat _ _ _) _ ?_ ?_); (· omega); (conv => whnf))
        | ((with_reducible refine @And.intro (∃ _, _ = _) _ ?_ ?_); (· exact ⟨_, rfl⟩); (conv => whnf))
        | ((with_reducible refine @And.intro (_ ∨ _) _ ?_ ?_); (· (first | exact Or.inl rfl | exact Or.inr rfl | exact t_b01 _ | assumption)); (conv => whnf))
        | ((with_reducible refine @And.intro (¬ (_ = _)) _ ?_ ?_); (· first | assumption | (with_reducible assumption)); (conv => whnf))
        | (refine hX _ _ _ _ _ _ ?_; (conv => whnf); fail_if_success show False)
        | (rw [t_si]; (conv => whnf))
        | (refine ⟨_, rfl, ?_⟩; (conv => whnf))
        | (refine ⟨_, _, rfl, ?_⟩; (conv => whnf))
        | (refine ⟨_, _, _, rfl, ?_⟩; (conv => whnf))
        | (refine ⟨_, _, _, _, rfl, ?_⟩; (conv => whnf))
        | (refine ⟨_, _, (by with_reducible assumption), ?_⟩; (conv => whnf))
        | (refine ⟨_, (by first | with_reducible assumption | exact rfl), ?_⟩; (conv => whnf))
        | (refine And.intro (fun c => ?_) (fun c => ?_) <;> (first | (exact absurd c (by decide +kernel)) | (exact absurd c (by assumption)) | (exact False.elim (c (by assumption))) | (conv => whnf)))
        | fail)
      exact e374 7 (by decide) J _ _ _ e hM hps hR
    | inr e =>
      obtain ⟨v, k2⟩ := e
      rw [hq] at hps
      rw [show p_number f n (nI 0) (nI 9) k = .inr (v, k2) from hq] at hR
      have hps : t_ps J n (.inr k2) := hps
      have h5 := t_ps_0 hps
      rw [show p_v (.inr (v, k2)) = v from rfl]
      repeat' (first
        | ((with_reducible refine @And.intro (vp_in _ _) _ ?_ ?_); (· (first | with_reducible assumption | ((with_reducible refine t_vin ?_); decide) | ((with_reducible refine vp_in_nI ?_ ?_) <;> first | omega | decide) | (simp (disch := omega) only [xl_n, xl_m, nI_dec, nI_sb, nI_add, pk_mul]; (with_reducible refine vp_in_nI ?_ ?_) <;> first | omega | decide))); (conv => whnf))
        | (refine And.intro (by first | with_reducible assumption | exact (show tL _ = _ from rfl) | decide) ?_; (conv => whnf))
        | ((with_reducible refine @And.intro (_ = _) _ ?_ ?_); (· rfl); (conv => whnf))
        | ((with_reducible refine @And.intro (@LE.le Nat _ _ _) _ ?_ ?_); (· (first | exact Nat.zero_le _ | exact Nat.le_of_ble_eq_true rfl | omega)); (conv => whnf))
        | ((with_reducible refine @And.intro (@LT.lt Nat _ _ _) _ ?_ ?_); (· omega); (conv => whnf))
        | ((with_reducible refine @And.intro (∃ _, _ = _) _ ?_ ?_); (· exact ⟨_, rfl⟩); (conv => whnf))
        | ((with_reducible refine @And.intro (_ ∨ _) _ ?_ ?_); (· (first | exact Or.inl rfl | exact Or.inr rfl | exact t_b01 _ | assumption)); (conv => whnf))
        | ((with_reducible refine @And.intro (¬ (_ = _)) _ ?_ ?_); (· first | assumption | (with_reducible assumption)); (conv => whnf))
        | (refine hX _ _ _ _ _ _ ?_; (conv => whnf); fail_if_success show False)
        | (rw [t_si]; simp (disch := omega) only [xl_n, xl_m, nI_dec, nI_sb, xl_0, xl_1, tW_i, t_bn0, t_bn1, Classical.not_not, t_lt, nI_add, nI_1, pk_mul, nI_clamp, t_si, nI_eq, nI_leI, nM_ne, nM_ne, xm_u2_ne, xm_u2_at, reduceIte, tK_u, tA_u, Nat.reduceEqDiff]; (conv => whnf))
        | (refine ⟨_, rfl, ?_⟩; (conv => whnf))
        | (refine ⟨_, _, rfl, ?_⟩; (conv => whnf))
        | (refine ⟨_, _, _, rfl, ?_⟩; (conv => whnf))
        | (refine ⟨_, _, _, _, rfl, ?_⟩; (conv => whnf))
        | (refine ⟨_, _, (by with_reducible assumption), ?_⟩; (conv => whnf))
        | (refine ⟨_, (by first | with_reducible assumption | exact rfl), ?_⟩; (conv => whnf))
        | (refine And.intro (fun c => ?_) (fun c => ?_) <;> (first | (exact absurd c (by decide +kernel)) | (exact absurd c (by assumption)) | (exact False.elim (c (by assumption))) | (conv => whnf)))
        | fail)
      exact a374 7 (by decide) (by decide) _ _ _ _ _ _ (hM.w f11) (t_ps_u hps (by decide)) (hrJ.u (Or.inr rfl) (by decide) hF) hR
  clear e374 a374 b374 sgn
  obtain ⟨hb1, hb2⟩ := p_bl_in (f := f) hk
  have hpM := t_ps_bl (f := f) hp
  have h5 := t_ps_0 hp
  have htI := ht
  generalize hb : p_bl f n k = b at hR hb1 hb2 hpM
  obtain ⟨hl1, hl2⟩ := p_le_in (f := f) hb2
  obtain ⟨M, eM⟩ : ∃ M, M = xm_u2 I 0 4 (nI b) := ⟨_, rfl⟩
  have hWM : t_pf I M := by rw [eM]; exact t_pf.u (Or.inl rfl)
  rw [← eM] at hpM
  have htM := hWM.tx ht
  have hrM := hWM.d hr
  have e07 : M 0 7 = F 0 7 := hrM 0 7 (Or.inl ⟨rfl, rfl⟩)
  have h4M := (t_ps_n hpM).2.1
  have h5M := t_ps_0 hpM
  have hM := hWM.r
  have hF1 : t_fok (xm_u2 F 0 7 (F 0 7 + nI 1)) := hF.u (by decide)
  have hQw : ∀ v, ¬ v = nI 0 → .inl (v, b) = R → Q none (tW (xm_u2 (xm_u2 M 0 5 v) 0 6 (nI b))) := fun v hv h => by
    subst h
    exact hQ _ (hM.tr ((t_pf.u (Or.inr (Or.inl rfl))).tr (t_pf.u (Or.inr (Or.inr rfl)))).r) (t_ps_w hpM hv)
  have e4M : xm_fld (tW M) 0 4 0 = .int (nI b) := congrArg Value.int h4M
  have hM2 : t_rf I (xm_u2 (xm_u2 M 0 4 (nI (p_le f n b))) 0 7 (F 0 7 + nI 1)) := (hM.tr (t_pf.u (Or.inl rfl)).r).tr t_rf.u7
  have hp2 : t_ps (xm_u2 (xm_u2 M 0 4 (nI (p_le f n b))) 0 7 (F 0 7 + nI 1)) n (.inr (p_le f n b)) := ⟨by rw [xm_u2_at, if_neg (by decide), xm_u2_at, if_neg (by decide)]; exact (t_ps_n hpM).1, rfl, hl2⟩
  have hr2 : t_rea (xm_u2 (xm_u2 M 0 4 (nI (p_le f n b))) 0 7 (F 0 7 + nI 1)) (xm_u2 F 0 7 (F 0 7 + nI 1)) := ((show t_pf M _ from t_pf.u (Or.inl rfl)).d hrM).u (Or.inl (by decide)) (by omega) hF
  have x0 : f_h F < 9 → p_bd (p_body f n (xm_u2 F 0 7 (F 0 7 + nI 1)) 0 (p_le f n b)) (fun F k => p_sg f n F k) = R → X 95 [some (.ref 0), some (.int (nI 0)), none, none, none] [] (tW M) 0 0 := by
    intro hx hR
    have := c0 _ _ _ hM2 hp2 hr2 hF1 hx hR
    clear c0 c1 c2 c3 c4 c5 c6 c7 hQw hR hQ
    rw [← e07] at this
    refine hG _ _ _ _ _ _ ?_
    (conv => whnf)
    repeat' (first
      | ((with_reducible refine @And.intro (vp_in _ _) _ ?_ ?_); (· (first | with_reducible assumption | ((with_reducible refine t_vin ?_); decide) | ((with_reducible refine vp_in_nI ?_ ?_) <;> first | omega | decide) | (simp (disch := omega) only [xl_n, xl_m, nI_dec, nI_sb, nI_add, pk_mul]; (with_reducible refine vp_in_nI ?_ ?_) <;> first | omega | decide))); (conv => whnf))
      | (refine And.intro (by first | with_reducible assumption | exact (show tL _ = _ from rfl) | decide) ?_; (conv => whnf))
      | ((with_reducible refine @And.intro (_ = _) _ ?_ ?_); (· rfl); (conv => whnf))
      | ((with_reducible refine @And.intro (@LE.le Nat _ _ _) _ ?_ ?_); (· (first | exact Nat.zero_le _ | exact Nat.le_of_ble_eq_true rfl | omega)); (conv => whnf))
      | ((with_reducible refine @And.intro (@LT.lt Nat _ _ _) _ ?_ ?_); (· omega); (conv => whnf))
      | ((with_reducible refine @And.intro (∃ _, _ = _) _ ?_ ?_); (· exact ⟨_, rfl⟩); (conv => whnf))
      | ((with_reducible refine @And.intro (_ ∨ _) _ ?_ ?_); (· (first | exact Or.inl rfl | exact Or.inr rfl | exact t_b01 _ | assumption)); (conv => whnf))
      | ((with_reducible refine @And.intro (¬ (_ = _)) _ ?_ ?_); (· first | assumption | (with_reducible assumption)); (conv => whnf))
      | (refine hX _ _ _ _ _ _ ?_; (conv => whnf); fail_if_success show False)
      | (rw [t_si]; simp (disch := omega) only [xl_n, xl_m, nI_dec, nI_sb, xl_0, xl_1, tW_i, t_bn0, t_bn1, Classical.not_not, t_lt, nI_add, nI_1, pk_mul, nI_clamp, t_si, nI_eq, nI_leI, nM_ne, nM_ne, xm_u2_ne, xm_u2_at, reduceIte, tK_u, tA_u, Nat.reduceEqDiff]; (conv => whnf))
      | (refine ⟨_, rfl, ?_⟩; (conv => whnf))
      | (refine ⟨_, _, rfl, ?_⟩; (conv => whnf))
      | (refine ⟨_, _, _, rfl, ?_⟩; (conv => whnf))
      | (refine ⟨_, _, _, _, rfl, ?_⟩; (conv => whnf))
      | (refine ⟨_, _, (by with_reducible assumption), ?_⟩; (conv => whnf))
      | (refine ⟨_, (by first | with_reducible assumption | exact rfl), ?_⟩; (conv => whnf))
      | (refine And.intro (fun c => ?_) (fun c => ?_) <;> (first | (exact absurd c (by decide +kernel)) | (exact absurd c (by assumption)) | (exact False.elim (c (by assumption))) | (conv => whnf)))
      | fail)
    simp (disch := omega) only [xm_tsw, xm_lsw, xm_tgt, xl_n, nI_eq, nI_toInt]
    repeat' (first | exact this | exact True.intro | refine And.intro ?_ ?_ | (intro h; (first | exact this | exact absurd h (by decide +kernel))))
  have x1 : f_p F < 8 → p_bd (p_body f n (xm_u2 F 0 7 (F 0 7 + nI 1)) 1 (p_le f n b)) (fun F k => p_sg f n F k) = R → X 95 [some (.ref 0), some (.int (nI 1)), none, none, none] [] (tW M) 0 0 := by
    intro hx hR
    have := c1 _ _ _ hM2 hp2 hr2 hF1 hx hR
    clear c0 c1 c2 c3 c4 c5 c6 c7 hQw hR hQ x0
    rw [← e07] at this
    refine hG _ _ _ _ _ _ ?_
    (conv => whnf)
    repeat' (first
      | ((with_reducible refine @And.intro (vp_in _ _) _ ?_ ?_); (· (first | with_reducible assumption | ((with_reducible refine t_vin ?_); decide) | ((with_reducible refine vp_in_nI ?_ ?_) <;> first | omega | decide) | (simp (disch := omega) only [xl_n, xl_m, nI_dec, nI_sb, nI_add, pk_mul]; (with_reducible refine vp_in_nI ?_ ?_) <;> first | omega | decide))); (conv => whnf))
      | (refine And.intro (by first | with_reducible assumption | exact (show tL _ = _ from rfl) | decide) ?_; (conv => whnf))
      | ((with_reducible refine @And.intro (_ = _) _ ?_ ?_); (· rfl); (conv => whnf))
      | ((with_reducible refine @And.intro (@LE.le Nat _ _ _) _ ?_ ?_); (· (first | exact Nat.zero_le _ | exact Nat.le_of_ble_eq_true rfl | omega)); (conv => whnf))
      | ((with_reducible refine @And.intro (@LT.lt Nat _ _ _) _ ?_ ?_); (· omega); (conv => whnf))
      | ((with_reducible refine @And.intro (∃ _, _ = _) _ ?_ ?_); (· exact ⟨_, rfl⟩); (conv => whnf))
      | ((with_reducible refine @And.intro (_ ∨ _) _ ?_ ?_); (· (first | exact Or.inl rfl | exact Or.inr rfl | exact t_b01 _ | assumption)); (conv => whnf))
      | ((with_reducible refine @And.intro (¬ (_ = _)) _ ?_ ?_); (· first | assumption | (with_reducible assumption)); (conv => whnf))
      | (refine hX _ _ _ _ _ _ ?_; (conv => whnf); fail_if_success show False)
      | (rw [t_si]; simp (disch := omega) only [xl_n, xl_m, nI_dec, nI_sb, xl_0, xl_1, tW_i, t_bn0, t_bn1, Classical.not_not, t_lt, nI_add, nI_1, pk_mul, nI_clamp, t_si, nI_eq, nI_leI, nM_ne, nM_ne, xm_u2_ne, xm_u2_at, reduceIte, tK_u, tA_u, Nat.reduceEqDiff]; (conv => whnf))
      | (refine ⟨_, rfl, ?_⟩; (conv => whnf))
      | (refine ⟨_, _, rfl, ?_⟩; (conv => whnf))
      | (refine ⟨_, _, _, rfl, ?_⟩; (conv => whnf))
      | (refine ⟨_, _, _, _, rfl, ?_⟩; (conv => whnf))
      | (refine ⟨_, _, (by with_reducible assumption), ?_⟩; (conv => whnf))
      | (refine ⟨_, (by first | with_reducible assumption | exact rfl), ?_⟩; (conv => whnf))
      | (refine And.intro (fun c => ?_) (fun c => ?_) <;> (first | (exact absurd c (by decide +kernel)) | (exact absurd c (by assumption)) | (exact False.elim (c (by assumption))) | (conv => whnf)))
      | fail)
    simp (disch := omega) only [xm_tsw, xm_lsw, xm_tgt, xl_n, nI_eq, nI_toInt]
    repeat' (first | exact this | exact True.intro | refine And.intro ?_ ?_ | (intro h; (first | exact this | exact absurd h (by decide +kernel))))
  have x2 : f_a F < 6 → p_bd (p_body f n (xm_u2 F 0 7 (F 0 7 + nI 1)) 2 (p_le f n b)) (fun F k => p_sg f n F k) = R → X 95 [some (.ref 0), some (.int (nI 2)), none, none, none] [] (tW M) 0 0 := by
    intro hx hR
    have := c2 _ _ _ hM2 hp2 hr2 hF1 hx hR
    clear c0 c1 c2 c3 c4 c5 c6 c7 hQw hR hQ x0 x1
    rw [← e07] at this
    refine hG _ _ _ _ _ _ ?_
    (conv => whnf)
    repeat' (first
      | ((with_reducible refine @And.intro (vp_in _ _) _ ?_ ?_); (· (first | with_reducible assumption | ((with_reducible refine t_vin ?_); decide) | ((with_reducible refine vp_in_nI ?_ ?_) <;> first | omega | decide) | (simp (disch := omega) only [xl_n, xl_m, nI_dec, nI_sb, nI_add, pk_mul]; (with_reducible refine vp_in_nI ?_ ?_) <;> first | omega | decide))); (conv => whnf))
      | (refine And.intro (by first | with_reducible assumption | exact (show tL _ = _ from rfl) | decide) ?_; (conv => whnf))
      | ((with_reducible refine @And.intro (_ = _) _ ?_ ?_); (· rfl); (conv => whnf))
      | ((with_reducible refine @And.intro (@LE.le Nat _ _ _) _ ?_ ?_); (· (first | exact Nat.zero_le _ | exact Nat.le_of_ble_eq_true rfl | omega)); (conv => whnf))
      | ((with_reducible refine @And.intro (@LT.lt Nat _ _ _) _ ?_ ?_); (· omega); (conv => whnf))
      | ((with_reducible refine @And.intro (∃ _, _ = _) _ ?_ ?_); (· exact ⟨_, rfl⟩); (conv => whnf))
      | ((with_reducible refine @And.intro (_ ∨ _) _ ?_ ?_); (· (first | exact Or.inl rfl | exact Or.inr rfl | exact t_b01 _ | assumption)); (conv => whnf))
      | ((with_reducible refine @And.intro (¬ (_ = _)) _ ?_ ?_); (· first | assumption | (with_reducible assumption)); (conv => whnf))
      | (refine hX _ _ _ _ _ _ ?_; (conv => whnf); fail_if_success show False)
      | (rw [t_si]; simp (disch := omega) only [xl_n, xl_m, nI_dec, nI_sb, xl_0, xl_1, tW_i, t_bn0, t_bn1, Classical.not_not, t_lt, nI_add, nI_1, pk_mul, nI_clamp, t_si, nI_eq, nI_leI, nM_ne, nM_ne, xm_u2_ne, xm_u2_at, reduceIte, tK_u, tA_u, Nat.reduceEqDiff]; (conv => whnf))
      | (refine ⟨_, rfl, ?_⟩; (conv => whnf))
      | (refine ⟨_, _, rfl, ?_⟩; (conv => whnf))
      | (refine ⟨_, _, _, rfl, ?_⟩; (conv => whnf))
      | (refine ⟨_, _, _, _, rfl, ?_⟩; (conv => whnf))
      | (refine ⟨_, _, (by with_reducible assumption), ?_⟩; (conv => whnf))
      | (refine ⟨_, (by first | with_reducible assumption | exact rfl), ?_⟩; (conv => whnf))
      | (refine And.intro (fun c => ?_) (fun c => ?_) <;> (first | (exact absurd c (by decide +kernel)) | (exact absurd c (by assumption)) | (exact False.elim (c (by assumption))) | (conv => whnf)))
      | fail)
    simp (disch := omega) only [xm_tsw, xm_lsw, xm_tgt, xl_n, nI_eq, nI_toInt]
    repeat' (first | exact this | exact True.intro | refine And.intro ?_ ?_ | (intro h; (first | exact this | exact absurd h (by decide +kernel))))
  have x3 : p_bd (p_body f n (xm_u2 F 0 7 (F 0 7 + nI 1)) 3 (p_le f n b)) (fun F k => p_sg f n F k) = R → X 95 [some (.ref 0), some (.int (nI 3)), none, none, none] [] (tW M) 0 0 := by
    intro hR
    have := c3 _ _ _ hM2 hp2 hr2 hF1 hR
    clear c0 c1 c2 c3 c4 c5 c6 c7 hQw hR hQ x0 x1 x2
    rw [← e07] at this
    refine hG _ _ _ _ _ _ ?_
    (conv => whnf)
    repeat' (first
      | ((with_reducible refine @And.intro (vp_in _ _) _ ?_ ?_); (· (first | with_reducible assumption | ((with_reducible refine t_vin ?_); decide) | ((with_reducible refine vp_in_nI ?_ ?_) <;> first | omega | decide) | (simp (disch := omega) only [xl_n, xl_m, nI_dec, nI_sb, nI_add, pk_mul]; (with_reducible refine vp_in_nI ?_ ?_) <;> first | omega | decide))); (conv => whnf))
      | (refine And.intro (by first | with_reducible assumption | exact (show tL _ = _ from rfl) | decide) ?_; (conv => whnf))
      | ((with_reducible refine @And.intro (_ = _) _ ?_ ?_); (· rfl); (conv => whnf))
      | ((with_reducible refine @And.intro (@LE.le Nat _ _ _) _ ?_ ?_); (· (first | exact Nat.zero_le _ | exact Nat.le_of_ble_eq_true rfl | omega)); (conv => whnf))
      | ((with_reducible refine @And.intro (@LT.lt Nat _ _ _) _ ?_ ?_); (· omega); (conv => whnf))
      | ((with_reducible refine @And.intro (∃ _, _ = _) _ ?_ ?_); (· exact ⟨_, rfl⟩); (conv => whnf))
      | ((with_reducible refine @And.intro (_ ∨ _) _ ?_ ?_); (· (first | exact Or.inl rfl | exact Or.inr rfl | exact t_b01 _ | assumption)); (conv => whnf))
      | ((with_reducible refine @And.intro (¬ (_ = _)) _ ?_ ?_); (· first | assumption | (with_reducible assumption)); (conv => whnf))
      | (refine hX _ _ _ _ _ _ ?_; (conv => whnf); fail_if_success show False)
      | (rw [t_si]; simp (disch := omega) only [xl_n, xl_m, nI_dec, nI_sb, xl_0, xl_1, tW_i, t_bn0, t_bn1, Classical.not_not, t_lt, nI_add, nI_1, pk_mul, nI_clamp, t_si, nI_eq, nI_leI, nM_ne, nM_ne, xm_u2_ne, xm_u2_at, reduceIte, tK_u, tA_u, Nat.reduceEqDiff]; (conv => whnf))
      | (refine ⟨_, rfl, ?_⟩; (conv => whnf))
      | (refine ⟨_, _, rfl, ?_⟩; (conv => whnf))
      | (refine ⟨_, _, _, rfl, ?_⟩; (conv => whnf))
      | (refine ⟨_, _, _, _, rfl, ?_⟩; (conv => whnf))
      | (refine ⟨_, _, (by with_reducible assumption), ?_⟩; (conv => whnf))
      | (refine ⟨_, (by first | with_reducible assumption | exact rfl), ?_⟩; (conv => whnf))
      | (refine And.intro (fun c => ?_) (fun c => ?_) <;> (first | (exact absurd c (by decide +kernel)) | (exact absurd c (by assumption)) | (exact False.elim (c (by assumption))) | (conv => whnf)))
      | fail)
    simp (disch := omega) only [xm_tsw, xm_lsw, xm_tgt, xl_n, nI_eq, nI_toInt]
    repeat' (first | exact this | exact True.intro | refine And.intro ?_ ?_ | (intro h; (first | exact this | exact absurd h (by decide +kernel))))
  have x4 : p_bd (p_body f n (xm_u2 F 0 7 (F 0 7 + nI 1)) 4 (p_le f n b)) (fun F k => p_sg f n F k) = R → X 95 [some (.ref 0), some (.int (nI 4)), none, none, none] [] (tW M) 0 0 := by
    intro hR
    have := c4 _ _ _ hM2 hp2 hr2 hF1 hR
    clear c0 c1 c2 c3 c4 c5 c6 c7 hQw hR hQ x0 x1 x2 x3
    rw [← e07] at this
    refine hG _ _ _ _ _ _ ?_
    (conv => whnf)
    repeat' (first
      | ((with_reducible refine @And.intro (vp_in _ _) _ ?_ ?_); (· (first | with_reducible assumption | ((with_reducible refine t_vin ?_); decide) | ((with_reducible refine vp_in_nI ?_ ?_) <;> first | omega | decide) | (simp (disch := omega) only [xl_n, xl_m, nI_dec, nI_sb, nI_add, pk_mul]; (with_reducible refine vp_in_nI ?_ ?_) <;> first | omega | decide))); (conv => whnf))
      | (refine And.intro (by first | with_reducible assumption | exact (show tL _ = _ from rfl) | decide) ?_; (conv => whnf))
      | ((with_reducible refine @And.intro (_ = _) _ ?_ ?_); (· rfl); (conv => whnf))
      | ((with_reducible refine @And.intro (@LE.le Nat _ _ _) _ ?_ ?_); (· (first | exact Nat.zero_le _ | exact Nat.le_of_ble_eq_true rfl | omega)); (conv => whnf))
      | ((with_reducible refine @And.intro (@LT.lt Nat _ _ _) _ ?_ ?_); (· omega); (conv => whnf))
      | ((with_reducible refine @And.intro (∃ _, _ = _) _ ?_ ?_); (· exact ⟨_, rfl⟩); (conv => whnf))
      | ((with_reducible refine @And.intro (_ ∨ _) _ ?_ ?_); (· (first | exact Or.inl rfl | exact Or.inr rfl | exact t_b01 _ | assumption)); (conv => whnf))
      | ((with_reducible refine @And.intro (¬ (_ = _)) _ ?_ ?_); (· first | assumption | (with_reducible assumption)); (conv => whnf))
      | (refine hX _ _ _ _ _ _ ?_; (conv => whnf); fail_if_success show False)
      | (rw [t_si]; simp (disch := omega) only [xl_n, xl_m, nI_dec, nI_sb, xl_0, xl_1, tW_i, t_bn0, t_bn1, Classical.not_not, t_lt, nI_add, nI_1, pk_mul, nI_clamp, t_si, nI_eq, nI_leI, nM_ne, nM_ne, xm_u2_ne, xm_u2_at, reduceIte, tK_u, tA_u, Nat.reduceEqDiff]; (conv => whnf))
      | (refine ⟨_, rfl, ?_⟩; (conv => whnf))
      | (refine ⟨_, _, rfl, ?_⟩; (conv => whnf))
      | (refine ⟨_, _, _, rfl, ?_⟩; (conv => whnf))
      | (refine ⟨_, _, _, _, rfl, ?_⟩; (conv => whnf))
      | (refine ⟨_, _, (by with_reducible assumption), ?_⟩; (conv => whnf))
      | (refine ⟨_, (by first | with_reducible assumption | exact rfl), ?_⟩; (conv => whnf))
      | (refine And.intro (fun c => ?_) (fun c => ?_) <;> (first | (exact absurd c (by decide +kernel)) | (exact absurd c (by assumption)) | (exact False.elim (c (by assumption))) | (conv => whnf)))
      | fail)
    simp (disch := omega) only [xm_tsw, xm_lsw, xm_tgt, xl_n, nI_eq, nI_toInt]
    repeat' (first | exact this | exact True.intro | refine And.intro ?_ ?_ | (intro h; (first | exact this | exact absurd h (by decide +kernel))))
  have x5 : p_bd (p_body f n (xm_u2 F 0 7 (F 0 7 + nI 1)) 5 (p_le f n b)) (fun F k => p_sg f n F k) = R → X 95 [some (.ref 0), some (.int (nI 5)), none, none, none] [] (tW M) 0 0 := by
    intro hR
    have := c5 _ _ _ hM2 hp2 hr2 hF1 hR
    clear c0 c1 c2 c3 c4 c5 c6 c7 hQw hR hQ x0 x1 x2 x3 x4
    rw [← e07] at this
    refine hG _ _ _ _ _ _ ?_
    (conv => whnf)
    repeat' (first
      | ((with_reducible refine @And.intro (vp_in _ _) _ ?_ ?_); (· (first | with_reducible assumption | ((with_reducible refine t_vin ?_); decide) | ((with_reducible refine vp_in_nI ?_ ?_) <;> first | omega | decide) | (simp (disch := omega) only [xl_n, xl_m, nI_dec, nI_sb, nI_add, pk_mul]; (with_reducible refine vp_in_nI ?_ ?_) <;> first | omega | decide))); (conv => whnf))
      | (refine And.intro (by first | with_reducible assumption | exact (show tL _ = _ from rfl) | decide) ?_; (conv => whnf))
      | ((with_reducible refine @And.intro (_ = _) _ ?_ ?_); (· rfl); (conv => whnf))
      | ((with_reducible refine @And.intro (@LE.le Nat _ _ _) _ ?_ ?_); (· (first | exact Nat.zero_le _ | exact Nat.le_of_ble_eq_true rfl | omega)); (conv => whnf))
      | ((with_reducible refine @And.intro (@LT.lt Nat _ _ _) _ ?_ ?_); (· omega); (conv => whnf))
      | ((with_reducible refine @And.intro (∃ _, _ = _) _ ?_ ?_); (· exact ⟨_, rfl⟩); (conv => whnf))
      | ((with_reducible refine @And.intro (_ ∨ _) _ ?_ ?_); (· (first | exact Or.inl rfl | exact Or.inr rfl | exact t_b01 _ | assumption)); (conv => whnf))
      | ((with_reducible refine @And.intro (¬ (_ = _)) _ ?_ ?_); (· first | assumption | (with_reducible assumption)); (conv => whnf))
      | (refine hX _ _ _ _ _ _ ?_; (conv => whnf); fail_if_success show False)
      | (rw [t_si]; simp (disch := omega) only [xl_n, xl_m, nI_dec, nI_sb, xl_0, xl_1, tW_i, t_bn0, t_bn1, Classical.not_not, t_lt, nI_add, nI_1, pk_mul, nI_clamp, t_si, nI_eq, nI_leI, nM_ne, nM_ne, xm_u2_ne, xm_u2_at, reduceIte, tK_u, tA_u, Nat.reduceEqDiff]; (conv => whnf))
      | (refine ⟨_, rfl, ?_⟩; (conv => whnf))
      | (refine ⟨_, _, rfl, ?_⟩; (conv => whnf))
      | (refine ⟨_, _, _, rfl, ?_⟩; (conv => whnf))
      | (refine ⟨_, _, _, _, rfl, ?_⟩; (conv => whnf))
      | (refine ⟨_, _, (by with_reducible assumption), ?_⟩; (conv => whnf))
      | (refine ⟨_, (by first | with_reducible assumption | exact rfl), ?_⟩; (conv => whnf))
      | (refine And.intro (fun c => ?_) (fun c => ?_) <;> (first | (exact absurd c (by decide +kernel)) | (exact absurd c (by assumption)) | (exact False.elim (c (by assumption))) | (conv => whnf)))
      | fail)
    simp (disch := omega) only [xm_tsw, xm_lsw, xm_tgt, xl_n, nI_eq, nI_toInt]
    repeat' (first | exact this | exact True.intro | refine And.intro ?_ ?_ | (intro h; (first | exact this | exact absurd h (by decide +kernel))))
  have x6 : p_bd (p_body f n (xm_u2 F 0 7 (F 0 7 + nI 1)) 6 (p_le f n b)) (fun F k => p_sg f n F k) = R → X 95 [some (.ref 0), some (.int (nI 6)), none, none, none] [] (tW M) 0 0 := by
    intro hR
    have := c6 _ _ _ hM2 hp2 hr2 hF1 hR
    clear c0 c1 c2 c3 c4 c5 c6 c7 hQw hR hQ x0 x1 x2 x3 x4 x5
    rw [← e07] at this
    refine hG _ _ _ _ _ _ ?_
    (conv => whnf)
    repeat' (first
      | ((with_reducible refine @And.intro (vp_in _ _) _ ?_ ?_); (· (first | with_reducible assumption | ((with_reducible refine t_vin ?_); decide) | ((with_reducible refine vp_in_nI ?_ ?_) <;> first | omega | decide) | (simp (disch := omega) only [xl_n, xl_m, nI_dec, nI_sb, nI_add, pk_mul]; (with_reducible refine vp_in_nI ?_ ?_) <;> first | omega | decide))); (conv => whnf))
      | (refine And.intro (by first | with_reducible assumption | exact (show tL _ = _ from rfl) | decide) ?_; (conv => whnf))
      | ((with_reducible refine @And.intro (_ = _) _ ?_ ?_); (· rfl); (conv => whnf))
      | ((with_reducible refine @And.intro (@LE.le Nat _ _ _) _ ?_ ?_); (· (first | exact Nat.zero_le _ | exact Nat.le_of_ble_eq_true rfl | omega)); (conv => whnf))
      | ((with_reducible refine @And.intro (@LT.lt Nat _ _ _) _ ?_ ?_); (· omega); (conv => whnf))
      | ((with_reducible refine @And.intro (∃ _, _ = _) _ ?_ ?_); (· exact ⟨_, rfl⟩); (conv => whnf))
      | ((with_reducible refine @And.intro (_ ∨ _) _ ?_ ?_); (· (first | exact Or.inl rfl | exact Or.inr rfl | exact t_b01 _ | assumption)); (conv => whnf))
      | ((with_reducible refine @And.intro (¬ (_ = _)) _ ?_ ?_); (· first | assumption | (with_reducible assumption)); (conv => whnf))
      | (refine hX _ _ _ _ _ _ ?_; (conv => whnf); fail_if_success show False)
      | (rw [t_si]; simp (disch := omega) only [xl_n, xl_m, nI_dec, nI_sb, xl_0, xl_1, tW_i, t_bn0, t_bn1, Classical.not_not, t_lt, nI_add, nI_1, pk_mul, nI_clamp, t_si, nI_eq, nI_leI, nM_ne, nM_ne, xm_u2_ne, xm_u2_at, reduceIte, tK_u, tA_u, Nat.reduceEqDiff]; (conv => whnf))
      | (refine ⟨_, rfl, ?_⟩; (conv => whnf))
      | (refine ⟨_, _, rfl, ?_⟩; (conv => whnf))
      | (refine ⟨_, _, _, rfl, ?_⟩; (conv => whnf))
      | (refine ⟨_, _, _, _, rfl, ?_⟩; (conv => whnf))
      | (refine ⟨_, _, (by with_reducible assumption), ?_⟩; (conv => whnf))
      | (refine ⟨_, (by first | with_reducible assumption | exact rfl), ?_⟩; (conv => whnf))
      | (refine And.intro (fun c => ?_) (fun c => ?_) <;> (first | (exact absurd c (by decide +kernel)) | (exact absurd c (by assumption)) | (exact False.elim (c (by assumption))) | (conv => whnf)))
      | fail)
    simp (disch := omega) only [xm_tsw, xm_lsw, xm_tgt, xl_n, nI_eq, nI_toInt]
    repeat' (first | exact this | exact True.intro | refine And.intro ?_ ?_ | (intro h; (first | exact this | exact absurd h (by decide +kernel))))
  have x7 : p_bd (p_body f n (xm_u2 F 0 7 (F 0 7 + nI 1)) 7 (p_le f n b)) (fun F k => p_sg f n F k) = R → X 95 [some (.ref 0), some (.int (nI 7)), none, none, none] [] (tW M) 0 0 := by
    intro hR
    have := c7 _ _ _ hM2 hp2 hr2 hF1 hR
    clear c0 c1 c2 c3 c4 c5 c6 c7 hQw hR hQ x0 x1 x2 x3 x4 x5 x6
    rw [← e07] at this
    refine hG _ _ _ _ _ _ ?_
    (conv => whnf)
    repeat' (first
      | ((with_reducible refine @And.intro (vp_in _ _) _ ?_ ?_); (· (first | with_reducible assumption | ((with_reducible refine t_vin ?_); decide) | ((with_reducible refine vp_in_nI ?_ ?_) <;> first | omega | decide) | (simp (disch := omega) only [xl_n, xl_m, nI_dec, nI_sb, nI_add, pk_mul]; (with_reducible refine vp_in_nI ?_ ?_) <;> first | omega | decide))); (conv => whnf))
      | (refine And.intro (by first | with_reducible assumption | exact (show tL _ = _ from rfl) | decide) ?_; (conv => whnf))
      | ((with_reducible refine @And.intro (_ = _) _ ?_ ?_); (· rfl); (conv => whnf))
      | ((with_reducible refine @And.intro (@LE.le Nat _ _ _) _ ?_ ?_); (· (first | exact Nat.zero_le _ | exact Nat.le_of_ble_eq_true rfl | omega)); (conv => whnf))
      | ((with_reducible refine @And.intro (@LT.lt Nat _ _ _) _ ?_ ?_); (· omega); (conv => whnf))
      | ((with_reducible refine @And.intro (∃ _, _ = _) _ ?_ ?_); (· exact ⟨_, rfl⟩); (conv => whnf))
      | ((with_reducible refine @And.intro (_ ∨ _) _ ?_ ?_); (· (first | exact Or.inl rfl | exact Or.inr rfl | exact t_b01 _ | assumption)); (conv => whnf))
      | ((with_reducible refine @And.intro (¬ (_ = _)) _ ?_ ?_); (· first | assumption | (with_reducible assumption)); (conv => whnf))
      | (refine hX _ _ _ _ _ _ ?_; (conv => whnf); fail_if_success show False)
      | (rw [t_si]; simp (disch := omega) only [xl_n, xl_m, nI_dec, nI_sb, xl_0, xl_1, tW_i, t_bn0, t_bn1, Classical.not_not, t_lt, nI_add, nI_1, pk_mul, nI_clamp, t_si, nI_eq, nI_leI, nM_ne, nM_ne, xm_u2_ne, xm_u2_at, reduceIte, tK_u, tA_u, Nat.reduceEqDiff]; (conv => whnf))
      | (refine ⟨_, rfl, ?_⟩; (conv => whnf))
      | (refine ⟨_, _, rfl, ?_⟩; (conv => whnf))
      | (refine ⟨_, _, _, rfl, ?_⟩; (conv => whnf))
      | (refine ⟨_, _, _, _, rfl, ?_⟩; (conv => whnf))
      | (refine ⟨_, _, (by with_reducible assumption), ?_⟩; (conv => whnf))
      | (refine ⟨_, (by first | with_reducible assumption | exact rfl), ?_⟩; (conv => whnf))
      | (refine And.intro (fun c => ?_) (fun c => ?_) <;> (first | (exact absurd c (by decide +kernel)) | (exact absurd c (by assumption)) | (exact False.elim (c (by assumption))) | (conv => whnf)))
      | fail)
    simp (disch := omega) only [xm_tsw, xm_lsw, xm_tgt, xl_n, nI_eq, nI_toInt]
    repeat' (first | exact this | exact True.intro | refine And.intro ?_ ?_ | (intro h; (first | exact this | exact absurd h (by decide +kernel))))
  clear c0 c1 c2 c3 c4 c5 c6 c7 hM2 hp2 hr2
  refine ⟨rfl, ?_⟩
  rcases p_kind_c (p_ls f n b) with hK | ⟨j, hj, hK⟩
  · rw [if_pos hK] at hR
    have hw := hQw (nI 1) (by decide +kernel) hR.symm
    have hd : ¬ xm_u2 (xm_u2 M 0 5 (Int32.ofInt 1)) 0 6 (nI b) 0 5 = 0 := by
      rw [xm_u2_at, if_neg (by decide), xm_u2_at, if_pos rfl]
      decide +kernel
    have hm1 : nM = Int32.ofInt (-1) := by decide +kernel
    clear x0 x1 x2 x3 x4 x5 x6 x7
    repeat' (first
      | ((with_reducible refine @And.intro (vp_in _ _) _ ?_ ?_); (· (first | with_reducible assumption | ((with_reducible refine t_vin ?_); decide) | ((with_reducible refine vp_in_nI ?_ ?_) <;> first | omega | decide) | (simp (disch := omega) only [xl_n, xl_m, nI_dec, nI_sb, nI_add, pk_mul]; (with_reducible refine vp_in_nI ?_ ?_) <;> first | omega | decide))); (conv => whnf))
      | (refine And.intro (by first | with_reducible assumption | exact (show tL _ = _ from rfl) | decide) ?_; (conv => whnf))
      | ((with_reducible refine @And.intro (_ = _) _ ?_ ?_); (· rfl); (conv => whnf))
      | ((with_reducible refine @And.intro (@LE.le Nat _ _ _) _ ?_ ?_); (· (first | exact Nat.zero_le _ | exact Nat.le_of_ble_eq_true rfl | omega)); (conv => whnf))
      | ((with_reducible refine @And.intro (@LT.lt Nat _ _ _) _ ?_ ?_); (· omega); (conv => whnf))
      | ((with_reducible refine @And.intro (∃ _, _ = _) _ ?_ ?_); (· exact ⟨_, rfl⟩); (conv => whnf))
      | ((with_reducible refine @And.intro (_ ∨ _) _ ?_ ?_); (· (first | exact Or.inl rfl | exact Or.inr rfl | exact t_b01 _ | assumption)); (conv => whnf))
      | ((with_reducible refine @And.intro (¬ (_ = _)) _ ?_ ?_); (· first | assumption | (with_reducible assumption)); (conv => whnf))
      | (refine hX _ _ _ _ _ _ ?_; (conv => whnf); fail_if_success show False)
      | (rw [t_si]; (conv => whnf))
      | (refine ⟨_, rfl, ?_⟩; (conv => whnf))
      | (refine ⟨_, _, rfl, ?_⟩; (conv => whnf))
      | (refine ⟨_, _, _, rfl, ?_⟩; (conv => whnf))
      | (refine ⟨_, _, _, _, rfl, ?_⟩; (conv => whnf))
      | (rw [hb]; (conv => whnf))
      | (rw [← eM]; (conv => whnf))
      | (rw [hK]; (conv => whnf))
      | (rw [e4M]; (conv => whnf))
      | (refine ⟨_, _, (by with_reducible assumption), ?_⟩; (conv => whnf))
      | (refine ⟨_, (by first | with_reducible assumption | exact rfl), ?_⟩; (conv => whnf))
      | (refine And.intro (fun c => ?_) (fun c => ?_) <;> (first | (exact absurd c (by decide +kernel)) | (exact absurd c (by assumption)) | (exact False.elim (c (by assumption))) | (conv => whnf)))
      | fail)
    show Q none (tW (xm_u2 (xm_u2 M 0 5 (Int32.ofInt 1)) 0 6 (M 0 4)))
    rw [h4M, xl_n.2.1]
    exact hw
  · have hKn : ¬ p_kind (p_ls f n b) = nM := by
      rw [hK]
      exact nM_j hj
    rw [if_neg hKn, hK, nI_clamp (by omega)] at hR
    have hm1 : ¬ nI j = Int32.ofInt (-1) := nM_j hj
    have hd : ¬ xm_u2 (xm_u2 M 0 5 (Int32.ofInt 3)) 0 6 (nI b) 0 5 = 0 := by
      rw [xm_u2_at, if_neg (by decide), xm_u2_at, if_pos rfl]
      decide +kernel
    have hQw3 : p_full F j = true → Q none (tW (xm_u2 (xm_u2 M 0 5 (Int32.ofInt 3)) 0 6 (nI b))) := fun h => by
      rw [if_pos h] at hR
      rw [xl_n.2.2.2.1]
      exact hQw (nI 3) (by decide +kernel) hR.symm
    have hR2 : ¬ p_full F j = true → p_bd (p_body f n (xm_u2 F 0 7 (F 0 7 + nI 1)) j (p_le f n b)) (fun F k => p_sg f n F k) = R := fun h => by
      rw [if_neg h] at hR
      exact hR.symm
    have e60 : Int32.ofInt 60 = nI 60 := by decide +kernel
    rcases (show j = 0 ∨ j = 1 ∨ j = 2 ∨ j = 3 ∨ j = 4 ∨ j = 5 ∨ j = 6 ∨ j = 7 by omega) with rfl | rfl | rfl | rfl | rfl | rfl | rfl | rfl
    · by_cases hf : p_full F 0 = true
      · have hw := hQw3 hf
        rw [p_full_0, ← e07, ← e60] at hf
        clear x0 x1 x2 x3 x4 x5 x6 x7 hQw hQw3 hR2 hR
        have e11 : M 11 0 = F 11 0 := hrM.h
        have e9 : Int32.ofInt 9 = nI 9 := by decide +kernel
        rw [← e11, ← e9] at hf
        rcases hf with hA | hA
        · repeat' (first
            | ((with_reducible refine @And.intro (vp_in _ _) _ ?_ ?_); (· (first | with_reducible assumption | ((with_reducible refine t_vin ?_); decide) | ((with_reducible refine vp_in_nI ?_ ?_) <;> first | omega | decide) | (simp (disch := omega) only [xl_n, xl_m, nI_dec, nI_sb, nI_add, pk_mul]; (with_reducible refine vp_in_nI ?_ ?_) <;> first | omega | decide))); (conv => whnf))
            | (refine And.intro (by first | with_reducible assumption | exact (show tL _ = _ from rfl) | decide) ?_; (conv => whnf))
            | ((with_reducible refine @And.intro (_ = _) _ ?_ ?_); (· rfl); (conv => whnf))
            | ((with_reducible refine @And.intro (@LE.le Nat _ _ _) _ ?_ ?_); (· (first | exact Nat.zero_le _ | exact Nat.le_of_ble_eq_true rfl | omega)); (conv => whnf))
            | ((with_reducible refine @And.intro (@LT.lt Nat _ _ _) _ ?_ ?_); (· omega); (conv => whnf))
            | ((with_reducible refine @And.intro (∃ _, _ = _) _ ?_ ?_); (· exact ⟨_, rfl⟩); (conv => whnf))
            | ((with_reducible refine @And.intro (_ ∨ _) _ ?_ ?_); (· (first | exact Or.inl rfl | exact Or.inr rfl | exact t_b01 _ | assumption)); (conv => whnf))
            | ((with_reducible refine @And.intro (¬ (_ = _)) _ ?_ ?_); (· first | assumption | (with_reducible assumption)); (conv => whnf))
            | (refine hX _ _ _ _ _ _ ?_; (conv => whnf); fail_if_success show False)
            | (rw [t_si]; (conv => whnf))
            | (refine ⟨_, rfl, ?_⟩; (conv => whnf))
            | (refine ⟨_, _, rfl, ?_⟩; (conv => whnf))
            | (refine ⟨_, _, _, rfl, ?_⟩; (conv => whnf))
            | (refine ⟨_, _, _, _, rfl, ?_⟩; (conv => whnf))
            | (rw [hb]; (conv => whnf))
            | (rw [← eM]; (conv => whnf))
            | (rw [hK]; (conv => whnf))
            | (rw [e4M]; (conv => whnf))
            | (refine ⟨_, _, (by with_reducible assumption), ?_⟩; (conv => whnf))
            | (refine ⟨_, (by first | with_reducible assumption | exact rfl), ?_⟩; (conv => whnf))
            | (refine And.intro (fun c => ?_) (fun c => ?_) <;> (first | (exact absurd c (by decide +kernel)) | (exact absurd c (by assumption)) | (exact False.elim (c (by assumption))) | (conv => whnf)))
            | fail)
          all_goals (
            show Q none (tW (xm_u2 (xm_u2 M 0 5 (Int32.ofInt 3)) 0 6 (M 0 4)))
            rw [h4M]
            exact hw)
        · repeat' (first
            | ((with_reducible refine @And.intro (vp_in _ _) _ ?_ ?_); (· (first | with_reducible assumption | ((with_reducible refine t_vin ?_); decide) | ((with_reducible refine vp_in_nI ?_ ?_) <;> first | omega | decide) | (simp (disch := omega) only [xl_n, xl_m, nI_dec, nI_sb, nI_add, pk_mul]; (with_reducible refine vp_in_nI ?_ ?_) <;> first | omega | decide))); (conv => whnf))
            | (refine And.intro (by first | with_reducible assumption | exact (show tL _ = _ from rfl) | decide) ?_; (conv => whnf))
            | ((with_reducible refine @And.intro (_ = _) _ ?_ ?_); (· rfl); (conv => whnf))
            | ((with_reducible refine @And.intro (@LE.le Nat _ _ _) _ ?_ ?_); (· (first | exact Nat.zero_le _ | exact Nat.le_of_ble_eq_true rfl | omega)); (conv => whnf))
            | ((with_reducible refine @And.intro (@LT.lt Nat _ _ _) _ ?_ ?_); (· omega); (conv => whnf))
            | ((with_reducible refine @And.intro (∃ _, _ = _) _ ?_ ?_); (· exact ⟨_, rfl⟩); (conv => whnf))
            | ((with_reducible refine @And.intro (_ ∨ _) _ ?_ ?_); (· (first | exact Or.inl rfl | exact Or.inr rfl | exact t_b01 _ | assumption)); (conv => whnf))
            | ((with_reducible refine @And.intro (¬ (_ = _)) _ ?_ ?_); (· first | assumption | (with_reducible assumption)); (conv => whnf))
            | (refine hX _ _ _ _ _ _ ?_; (conv => whnf); fail_if_success show False)
            | (rw [t_si]; (conv => whnf))
            | (refine ⟨_, rfl, ?_⟩; (conv => whnf))
            | (refine ⟨_, _, rfl, ?_⟩; (conv => whnf))
            | (refine ⟨_, _, _, rfl, ?_⟩; (conv => whnf))
            | (refine ⟨_, _, _, _, rfl, ?_⟩; (conv => whnf))
            | (rw [hb]; (conv => whnf))
            | (rw [← eM]; (conv => whnf))
            | (rw [hK]; (conv => whnf))
            | (rw [e4M]; (conv => whnf))
            | (refine ⟨_, _, (by with_reducible assumption), ?_⟩; (conv => whnf))
            | (refine ⟨_, (by first | with_reducible assumption | exact rfl), ?_⟩; (conv => whnf))
            | (refine And.intro (fun c => ?_) (fun c => ?_) <;> (first | (exact absurd c (by decide +kernel)) | (exact absurd c (by assumption)) | (exact False.elim (c (by assumption))) | (conv => whnf)))
            | fail)
          all_goals (
            show Q none (tW (xm_u2 (xm_u2 M 0 5 (Int32.ofInt 3)) 0 6 (M 0 4)))
            rw [h4M]
            exact hw)
      · have hf2 : ¬ F 0 7 = nI 60 := fun z => hf (p_full_0.mpr (Or.inl z))
        have hf3 : ¬ F 11 0 = nI 9 := fun z => hf (p_full_0.mpr (Or.inr z))
        have hx := x0 (by
          have h1 := hF.1
          have h2 := hF.2.1
          rcases Nat.lt_or_ge (f_h F) 9 with q | q
          · exact q
          · exact absurd (h1.trans (congrArg nI (show f_h F = 9 by omega))) hf3) (hR2 hf)
        have e11 : M 11 0 = F 11 0 := hrM.h
        have e9 : Int32.ofInt 9 = nI 9 := by decide +kernel
        rw [← e11, ← e9] at hf3
        rw [← e07, ← e60] at hf2
        clear x0 x1 x2 x3 x4 x5 x6 x7 hQw hQw3 hR2 hR
        repeat' (first
          | ((with_reducible refine @And.intro (vp_in _ _) _ ?_ ?_); (· (first | with_reducible assumption | ((with_reducible refine t_vin ?_); decide) | ((with_reducible refine vp_in_nI ?_ ?_) <;> first | omega | decide) | (simp (disch := omega) only [xl_n, xl_m, nI_dec, nI_sb, nI_add, pk_mul]; (with_reducible refine vp_in_nI ?_ ?_) <;> first | omega | decide))); (conv => whnf))
          | (refine And.intro (by first | with_reducible assumption | exact (show tL _ = _ from rfl) | decide) ?_; (conv => whnf))
          | ((with_reducible refine @And.intro (_ = _) _ ?_ ?_); (· rfl); (conv => whnf))
          | ((with_reducible refine @And.intro (@LE.le Nat _ _ _) _ ?_ ?_); (· (first | exact Nat.zero_le _ | exact Nat.le_of_ble_eq_true rfl | omega)); (conv => whnf))
          | ((with_reducible refine @And.intro (@LT.lt Nat _ _ _) _ ?_ ?_); (· omega); (conv => whnf))
          | ((with_reducible refine @And.intro (∃ _, _ = _) _ ?_ ?_); (· exact ⟨_, rfl⟩); (conv => whnf))
          | ((with_reducible refine @And.intro (_ ∨ _) _ ?_ ?_); (· (first | exact Or.inl rfl | exact Or.inr rfl | exact t_b01 _ | assumption)); (conv => whnf))
          | ((with_reducible refine @And.intro (¬ (_ = _)) _ ?_ ?_); (· first | assumption | (with_reducible assumption)); (conv => whnf))
          | (refine hX _ _ _ _ _ _ ?_; (conv => whnf); fail_if_success show False)
          | (rw [t_si]; (conv => whnf))
          | (refine ⟨_, rfl, ?_⟩; (conv => whnf))
          | (refine ⟨_, _, rfl, ?_⟩; (conv => whnf))
          | (refine ⟨_, _, _, rfl, ?_⟩; (conv => whnf))
          | (refine ⟨_, _, _, _, rfl, ?_⟩; (conv => whnf))
          | (rw [hb]; (conv => whnf))
          | (rw [← eM]; (conv => whnf))
          | (rw [hK]; (conv => whnf))
          | (rw [e4M]; (conv => whnf))
          | (refine ⟨_, _, (by with_reducible assumption), ?_⟩; (conv => whnf))
          | (refine ⟨_, (by first | with_reducible assumption | exact rfl), ?_⟩; (conv => whnf))
          | (refine And.intro (fun c => ?_) (fun c => ?_) <;> (first | (exact absurd c (by decide +kernel)) | (exact absurd c (by assumption)) | (exact False.elim (c (by assumption))) | (conv => whnf)))
          | fail)
        exact hx
    · by_cases hf : p_full F 1 = true
      · have hw := hQw3 hf
        rw [p_full_1, ← e07, ← e60] at hf
        clear x0 x1 x2 x3 x4 x5 x6 x7 hQw hQw3 hR2 hR
        have e11 : M 11 1 = F 11 1 := hrM.p
        have e9 : Int32.ofInt 8 = nI 8 := by decide +kernel
        rw [← e11, ← e9] at hf
        rcases hf with hA | hA
        · repeat' (first
            | ((with_reducible refine @And.intro (vp_in _ _) _ ?_ ?_); (· (first | with_reducible assumption | ((with_reducible refine t_vin ?_); decide) | ((with_reducible refine vp_in_nI ?_ ?_) <;> first | omega | decide) | (simp (disch := omega) only [xl_n, xl_m, nI_dec, nI_sb, nI_add, pk_mul]; (with_reducible refine vp_in_nI ?_ ?_) <;> first | omega | decide))); (conv => whnf))
            | (refine And.intro (by first | with_reducible assumption | exact (show tL _ = _ from rfl) | decide) ?_; (conv => whnf))
            | ((with_reducible refine @And.intro (_ = _) _ ?_ ?_); (· rfl); (conv => whnf))
            | ((with_reducible refine @And.intro (@LE.le Nat _ _ _) _ ?_ ?_); (· (first | exact Nat.zero_le _ | exact Nat.le_of_ble_eq_true rfl | omega)); (conv => whnf))
            | ((with_reducible refine @And.intro (@LT.lt Nat _ _ _) _ ?_ ?_); (· omega); (conv => whnf))
            | ((with_reducible refine @And.intro (∃ _, _ = _) _ ?_ ?_); (· exact ⟨_, rfl⟩); (conv => whnf))
            | ((with_reducible refine @And.intro (_ ∨ _) _ ?_ ?_); (· (first | exact Or.inl rfl | exact Or.inr rfl | exact t_b01 _ | assumption)); (conv => whnf))
            | ((with_reducible refine @And.intro (¬ (_ = _)) _ ?_ ?_); (· first | assumption | (with_reducible assumption)); (conv => whnf))
            | (refine hX _ _ _ _ _ _ ?_; (conv => whnf); fail_if_success show False)
            | (rw [t_si]; (conv => whnf))
            | (refine ⟨_, rfl, ?_⟩; (conv => whnf))
            | (refine ⟨_, _, rfl, ?_⟩; (conv => whnf))
            | (refine ⟨_, _, _, rfl, ?_⟩; (conv => whnf))
            | (refine ⟨_, _, _, _, rfl, ?_⟩; (conv => whnf))
            | (rw [hb]; (conv => whnf))
            | (rw [← eM]; (conv => whnf))
            | (rw [hK]; (conv => whnf))
            | (rw [e4M]; (conv => whnf))
            | (refine ⟨_, _, (by with_reducible assumption), ?_⟩; (conv => whnf))
            | (refine ⟨_, (by first | with_reducible assumption | exact rfl), ?_⟩; (conv => whnf))
            | (refine And.intro (fun c => ?_) (fun c => ?_) <;> (first | (exact absurd c (by decide +kernel)) | (exact absurd c (by assumption)) | (exact False.elim (c (by assumption))) | (conv => whnf)))
            | fail)
          all_goals (
            show Q none (tW (xm_u2 (xm_u2 M 0 5 (Int32.ofInt 3)) 0 6 (M 0 4)))
            rw [h4M]
            exact hw)
        · repeat' (first
            | ((with_reducible refine @And.intro (vp_in _ _) _ ?_ ?_); (· (first | with_reducible assumption | ((with_reducible refine t_vin ?_); decide) | ((with_reducible refine vp_in_nI ?_ ?_) <;> first | omega | decide) | (simp (disch := omega) only [xl_n, xl_m, nI_dec, nI_sb, nI_add, pk_mul]; (with_reducible refine vp_in_nI ?_ ?_) <;> first | omega | decide))); (conv => whnf))
            | (refine And.intro (by first | with_reducible assumption | exact (show tL _ = _ from rfl) | decide) ?_; (conv => whnf))
            | ((with_reducible refine @And.intro (_ = _) _ ?_ ?_); (· rfl); (conv => whnf))
            | ((with_reducible refine @And.intro (@LE.le Nat _ _ _) _ ?_ ?_); (· (first | exact Nat.zero_le _ | exact Nat.le_of_ble_eq_true rfl | omega)); (conv => whnf))
            | ((with_reducible refine @And.intro (@LT.lt Nat _ _ _) _ ?_ ?_); (· omega); (conv => whnf))
            | ((with_reducible refine @And.intro (∃ _, _ = _) _ ?_ ?_); (· exact ⟨_, rfl⟩); (conv => whnf))
            | ((with_reducible refine @And.intro (_ ∨ _) _ ?_ ?_); (· (first | exact Or.inl rfl | exact Or.inr rfl | exact t_b01 _ | assumption)); (conv => whnf))
            | ((with_reducible refine @And.intro (¬ (_ = _)) _ ?_ ?_); (· first | assumption | (with_reducible assumption)); (conv => whnf))
            | (refine hX _ _ _ _ _ _ ?_; (conv => whnf); fail_if_success show False)
            | (rw [t_si]; (conv => whnf))
            | (refine ⟨_, rfl, ?_⟩; (conv => whnf))
            | (refine ⟨_, _, rfl, ?_⟩; (conv => whnf))
            | (refine ⟨_, _, _, rfl, ?_⟩; (conv => whnf))
            | (refine ⟨_, _, _, _, rfl, ?_⟩; (conv => whnf))
            | (rw [hb]; (conv => whnf))
            | (rw [← eM]; (conv => whnf))
            | (rw [hK]; (conv => whnf))
            | (rw [e4M]; (conv => whnf))
            | (refine ⟨_, _, (by with_reducible assumption), ?_⟩; (conv => whnf))
            | (refine ⟨_, (by first | with_reducible assumption | exact rfl), ?_⟩; (conv => whnf))
            | (refine And.intro (fun c => ?_) (fun c => ?_) <;> (first | (exact absurd c (by decide +kernel)) | (exact absurd c (by assumption)) | (exact False.elim (c (by assumption))) | (conv => whnf)))
            | fail)
          all_goals (
            show Q none (tW (xm_u2 (xm_u2 M 0 5 (Int32.ofInt 3)) 0 6 (M 0 4)))
            rw [h4M]
            exact hw)
      · have hf2 : ¬ F 0 7 = nI 60 := fun z => hf (p_full_1.mpr (Or.inl z))
        have hf3 : ¬ F 11 1 = nI 8 := fun z => hf (p_full_1.mpr (Or.inr z))
        have hx := x1 (by
          have h1 := hF.2.2.1
          have h2 := hF.2.2.2.1
          rcases Nat.lt_or_ge (f_p F) 8 with q | q
          · exact q
          · exact absurd (h1.trans (congrArg nI (show f_p F = 8 by omega))) hf3) (hR2 hf)
        have e11 : M 11 1 = F 11 1 := hrM.p
        have e9 : Int32.ofInt 8 = nI 8 := by decide +kernel
        rw [← e11, ← e9] at hf3
        rw [← e07, ← e60] at hf2
        clear x0 x1 x2 x3 x4 x5 x6 x7 hQw hQw3 hR2 hR
        repeat' (first
          | ((with_reducible refine @And.intro (vp_in _ _) _ ?_ ?_); (· (first | with_reducible assumption | ((with_reducible refine t_vin ?_); decide) | ((with_reducible refine vp_in_nI ?_ ?_) <;> first | omega | decide) | (simp (disch := omega) only [xl_n, xl_m, nI_dec, nI_sb, nI_add, pk_mul]; (with_reducible refine vp_in_nI ?_ ?_) <;> first | omega | decide))); (conv => whnf))
          | (refine And.intro (by first | with_reducible assumption | exact (show tL _ = _ from rfl) | decide) ?_; (conv => whnf))
          | ((with_reducible refine @And.intro (_ = _) _ ?_ ?_); (· rfl); (conv => whnf))
          | ((with_reducible refine @And.intro (@LE.le Nat _ _ _) _ ?_ ?_); (· (first | exact Nat.zero_le _ | exact Nat.le_of_ble_eq_true rfl | omega)); (conv => whnf))
          | ((with_reducible refine @And.intro (@LT.lt Nat _ _ _) _ ?_ ?_); (· omega); (conv => whnf))
          | ((with_reducible refine @And.intro (∃ _, _ = _) _ ?_ ?_); (· exact ⟨_, rfl⟩); (conv => whnf))
          | ((with_reducible refine @And.intro (_ ∨ _) _ ?_ ?_); (· (first | exact Or.inl rfl | exact Or.inr rfl | exact t_b01 _ | assumption)); (conv => whnf))
          | ((with_reducible refine @And.intro (¬ (_ = _)) _ ?_ ?_); (· first | assumption | (with_reducible assumption)); (conv => whnf))
          | (refine hX _ _ _ _ _ _ ?_; (conv => whnf); fail_if_success show False)
          | (rw [t_si]; (conv => whnf))
          | (refine ⟨_, rfl, ?_⟩; (conv => whnf))
          | (refine ⟨_, _, rfl, ?_⟩; (conv => whnf))
          | (refine ⟨_, _, _, rfl, ?_⟩; (conv => whnf))
          | (refine ⟨_, _, _, _, rfl, ?_⟩; (conv => whnf))
          | (rw [hb]; (conv => whnf))
          | (rw [← eM]; (conv => whnf))
          | (rw [hK]; (conv => whnf))
          | (rw [e4M]; (conv => whnf))
          | (refine ⟨_, _, (by with_reducible assumption), ?_⟩; (conv => whnf))
          | (refine ⟨_, (by first | with_reducible assumption | exact rfl), ?_⟩; (conv => whnf))
          | (refine And.intro (fun c => ?_) (fun c => ?_) <;> (first | (exact absurd c (by decide +kernel)) | (exact absurd c (by assumption)) | (exact False.elim (c (by assumption))) | (conv => whnf)))
          | fail)
        exact hx
    · by_cases hf : p_full F 2 = true
      · have hw := hQw3 hf
        rw [p_full_2, ← e07, ← e60] at hf
        clear x0 x1 x2 x3 x4 x5 x6 x7 hQw hQw3 hR2 hR
        have e11 : M 11 2 = F 11 2 := hrM.a
        have e9 : Int32.ofInt 6 = nI 6 := by decide +kernel
        rw [← e11, ← e9] at hf
        rcases hf with hA | hA
        · repeat' (first
            | ((with_reducible refine @And.intro (vp_in _ _) _ ?_ ?_); (· (first | with_reducible assumption | ((with_reducible refine t_vin ?_); decide) | ((with_reducible refine vp_in_nI ?_ ?_) <;> first | omega | decide) | (simp (disch := omega) only [xl_n, xl_m, nI_dec, nI_sb, nI_add, pk_mul]; (with_reducible refine vp_in_nI ?_ ?_) <;> first | omega | decide))); (conv => whnf))
            | (refine And.intro (by first | with_reducible assumption | exact (show tL _ = _ from rfl) | decide) ?_; (conv => whnf))
            | ((with_reducible refine @And.intro (_ = _) _ ?_ ?_); (· rfl); (conv => whnf))
            | ((with_reducible refine @And.intro (@LE.le Nat _ _ _) _ ?_ ?_); (· (first | exact Nat.zero_le _ | exact Nat.le_of_ble_eq_true rfl | omega)); (conv => whnf))
            | ((with_reducible refine @And.intro (@LT.lt Nat _ _ _) _ ?_ ?_); (· omega); (conv => whnf))
            | ((with_reducible refine @And.intro (∃ _, _ = _) _ ?_ ?_); (· exact ⟨_, rfl⟩); (conv => whnf))
            | ((with_reducible refine @And.intro (_ ∨ _) _ ?_ ?_); (· (first | exact Or.inl rfl | exact Or.inr rfl | exact t_b01 _ | assumption)); (conv => whnf))
            | ((with_reducible refine @And.intro (¬ (_ = _)) _ ?_ ?_); (· first | assumption | (with_reducible assumption)); (conv => whnf))
            | (refine hX _ _ _ _ _ _ ?_; (conv => whnf); fail_if_success show False)
            | (rw [t_si]; (conv => whnf))
            | (refine ⟨_, rfl, ?_⟩; (conv => whnf))
            | (refine ⟨_, _, rfl, ?_⟩; (conv => whnf))
            | (refine ⟨_, _, _, rfl, ?_⟩; (conv => whnf))
            | (refine ⟨_, _, _, _, rfl, ?_⟩; (conv => whnf))
            | (rw [hb]; (conv => whnf))
            | (rw [← eM]; (conv => whnf))
            | (rw [hK]; (conv => whnf))
            | (rw [e4M]; (conv => whnf))
            | (refine ⟨_, _, (by with_reducible assumption), ?_⟩; (conv => whnf))
            | (refine ⟨_, (by first | with_reducible assumption | exact rfl), ?_⟩; (conv => whnf))
            | (refine And.intro (fun c => ?_) (fun c => ?_) <;> (first | (exact absurd c (by decide +kernel)) | (exact absurd c (by assumption)) | (exact False.elim (c (by assumption))) | (conv => whnf)))
            | fail)
          all_goals (
            show Q none (tW (xm_u2 (xm_u2 M 0 5 (Int32.ofInt 3)) 0 6 (M 0 4)))
            rw [h4M]
            exact hw)
        · repeat' (first
            | ((with_reducible refine @And.intro (vp_in _ _) _ ?_ ?_); (· (first | with_reducible assumption | ((with_reducible refine t_vin ?_); decide) | ((with_reducible refine vp_in_nI ?_ ?_) <;> first | omega | decide) | (simp (disch := omega) only [xl_n, xl_m, nI_dec, nI_sb, nI_add, pk_mul]; (with_reducible refine vp_in_nI ?_ ?_) <;> first | omega | decide))); (conv => whnf))
            | (refine And.intro (by first | with_reducible assumption | exact (show tL _ = _ from rfl) | decide) ?_; (conv => whnf))
            | ((with_reducible refine @And.intro (_ = _) _ ?_ ?_); (· rfl); (conv => whnf))
            | ((with_reducible refine @And.intro (@LE.le Nat _ _ _) _ ?_ ?_); (· (first | exact Nat.zero_le _ | exact Nat.le_of_ble_eq_true rfl | omega)); (conv => whnf))
            | ((with_reducible refine @And.intro (@LT.lt Nat _ _ _) _ ?_ ?_); (· omega); (conv => whnf))
            | ((with_reducible refine @And.intro (∃ _, _ = _) _ ?_ ?_); (· exact ⟨_, rfl⟩); (conv => whnf))
            | ((with_reducible refine @And.intro (_ ∨ _) _ ?_ ?_); (· (first | exact Or.inl rfl | exact Or.inr rfl | exact t_b01 _ | assumption)); (conv => whnf))
            | ((with_reducible refine @And.intro (¬ (_ = _)) _ ?_ ?_); (· first | assumption | (with_reducible assumption)); (conv => whnf))
            | (refine hX _ _ _ _ _ _ ?_; (conv => whnf); fail_if_success show False)
            | (rw [t_si]; (conv => whnf))
            | (refine ⟨_, rfl, ?_⟩; (conv => whnf))
            | (refine ⟨_, _, rfl, ?_⟩; (conv => whnf))
            | (refine ⟨_, _, _, rfl, ?_⟩; (conv => whnf))
            | (refine ⟨_, _, _, _, rfl, ?_⟩; (conv => whnf))
            | (rw [hb]; (conv => whnf))
            | (rw [← eM]; (conv => whnf))
            | (rw [hK]; (conv => whnf))
            | (rw [e4M]; (conv => whnf))
            | (refine ⟨_, _, (by with_reducible assumption), ?_⟩; (conv => whnf))
            | (refine ⟨_, (by first | with_reducible assumption | exact rfl), ?_⟩; (conv => whnf))
            | (refine And.intro (fun c => ?_) (fun c => ?_) <;> (first | (exact absurd c (by decide +kernel)) | (exact absurd c (by assumption)) | (exact False.elim (c (by assumption))) | (conv => whnf)))
            | fail)
          all_goals (
            show Q none (tW (xm_u2 (xm_u2 M 0 5 (Int32.ofInt 3)) 0 6 (M 0 4)))
            rw [h4M]
            exact hw)
      · have hf2 : ¬ F 0 7 = nI 60 := fun z => hf (p_full_2.mpr (Or.inl z))
        have hf3 : ¬ F 11 2 = nI 6 := fun z => hf (p_full_2.mpr (Or.inr z))
        have hx := x2 (by
          have h1 := hF.2.2.2.2.1
          have h2 := hF.2.2.2.2.2
          rcases Nat.lt_or_ge (f_a F) 6 with q | q
          · exact q
          · exact absurd (h1.trans (congrArg nI (show f_a F = 6 by omega))) hf3) (hR2 hf)
        have e11 : M 11 2 = F 11 2 := hrM.a
        have e9 : Int32.ofInt 6 = nI 6 := by decide +kernel
        rw [← e11, ← e9] at hf3
        rw [← e07, ← e60] at hf2
        clear x0 x1 x2 x3 x4 x5 x6 x7 hQw hQw3 hR2 hR
        repeat' (first
          | ((with_reducible refine @And.intro (vp_in _ _) _ ?_ ?_); (· (first | with_reducible assumption | ((with_reducible refine t_vin ?_); decide) | ((with_reducible refine vp_in_nI ?_ ?_) <;> first | omega | decide) | (simp (disch := omega) only [xl_n, xl_m, nI_dec, nI_sb, nI_add, pk_mul]; (with_reducible refine vp_in_nI ?_ ?_) <;> first | omega | decide))); (conv => whnf))
          | (refine And.intro (by first | with_reducible assumption | exact (show tL _ = _ from rfl) | decide) ?_; (conv => whnf))
          | ((with_reducible refine @And.intro (_ = _) _ ?_ ?_); (· rfl); (conv => whnf))
          | ((with_reducible refine @And.intro (@LE.le Nat _ _ _) _ ?_ ?_); (· (first | exact Nat.zero_le _ | exact Nat.le_of_ble_eq_true rfl | omega)); (conv => whnf))
          | ((with_reducible refine @And.intro (@LT.lt Nat _ _ _) _ ?_ ?_); (· omega); (conv => whnf))
          | ((with_reducible refine @And.intro (∃ _, _ = _) _ ?_ ?_); (· exact ⟨_, rfl⟩); (conv => whnf))
          | ((with_reducible refine @And.intro (_ ∨ _) _ ?_ ?_); (· (first | exact Or.inl rfl | exact Or.inr rfl | exact t_b01 _ | assumption)); (conv => whnf))
          | ((with_reducible refine @And.intro (¬ (_ = _)) _ ?_ ?_); (· first | assumption | (with_reducible assumption)); (conv => whnf))
          | (refine hX _ _ _ _ _ _ ?_; (conv => whnf); fail_if_success show False)
          | (rw [t_si]; (conv => whnf))
          | (refine ⟨_, rfl, ?_⟩; (conv => whnf))
          | (refine ⟨_, _, rfl, ?_⟩; (conv => whnf))
          | (refine ⟨_, _, _, rfl, ?_⟩; (conv => whnf))
          | (refine ⟨_, _, _, _, rfl, ?_⟩; (conv => whnf))
          | (rw [hb]; (conv => whnf))
          | (rw [← eM]; (conv => whnf))
          | (rw [hK]; (conv => whnf))
          | (rw [e4M]; (conv => whnf))
          | (refine ⟨_, _, (by with_reducible assumption), ?_⟩; (conv => whnf))
          | (refine ⟨_, (by first | with_reducible assumption | exact rfl), ?_⟩; (conv => whnf))
          | (refine And.intro (fun c => ?_) (fun c => ?_) <;> (first | (exact absurd c (by decide +kernel)) | (exact absurd c (by assumption)) | (exact False.elim (c (by assumption))) | (conv => whnf)))
          | fail)
        exact hx
    · by_cases hf : p_full F 3 = true
      · have hw := hQw3 hf
        rw [p_full_3, ← e07, ← e60] at hf
        clear x0 x1 x2 x3 x4 x5 x6 x7 hQw hQw3 hR2 hR
        repeat' (first
          | ((with_reducible refine @And.intro (vp_in _ _) _ ?_ ?_); (· (first | with_reducible assumption | ((with_reducible refine t_vin ?_); decide) | ((with_reducible refine vp_in_nI ?_ ?_) <;> first | omega | decide) | (simp (disch := omega) only [xl_n, xl_m, nI_dec, nI_sb, nI_add, pk_mul]; (with_reducible refine vp_in_nI ?_ ?_) <;> first | omega | decide))); (conv => whnf))
          | (refine And.intro (by first | with_reducible assumption | exact (show tL _ = _ from rfl) | decide) ?_; (conv => whnf))
          | ((with_reducible refine @And.intro (_ = _) _ ?_ ?_); (· rfl); (conv => whnf))
          | ((with_reducible refine @And.intro (@LE.le Nat _ _ _) _ ?_ ?_); (· (first | exact Nat.zero_le _ | exact Nat.le_of_ble_eq_true rfl | omega)); (conv => whnf))
          | ((with_reducible refine @And.intro (@LT.lt Nat _ _ _) _ ?_ ?_); (· omega); (conv => whnf))
          | ((with_reducible refine @And.intro (∃ _, _ = _) _ ?_ ?_); (· exact ⟨_, rfl⟩); (conv => whnf))
          | ((with_reducible refine @And.intro (_ ∨ _) _ ?_ ?_); (· (first | exact Or.inl rfl | exact Or.inr rfl | exact t_b01 _ | assumption)); (conv => whnf))
          | ((with_reducible refine @And.intro (¬ (_ = _)) _ ?_ ?_); (· first | assumption | (with_reducible assumption)); (conv => whnf))
          | (refine hX _ _ _ _ _ _ ?_; (conv => whnf); fail_if_success show False)
          | (rw [t_si]; (conv => whnf))
          | (refine ⟨_, rfl, ?_⟩; (conv => whnf))
          | (refine ⟨_, _, rfl, ?_⟩; (conv => whnf))
          | (refine ⟨_, _, _, rfl, ?_⟩; (conv => whnf))
          | (refine ⟨_, _, _, _, rfl, ?_⟩; (conv => whnf))
          | (rw [hb]; (conv => whnf))
          | (rw [← eM]; (conv => whnf))
          | (rw [hK]; (conv => whnf))
          | (rw [e4M]; (conv => whnf))
          | (refine ⟨_, _, (by with_reducible assumption), ?_⟩; (conv => whnf))
          | (refine ⟨_, (by first | with_reducible assumption | exact rfl), ?_⟩; (conv => whnf))
          | (refine And.intro (fun c => ?_) (fun c => ?_) <;> (first | (exact absurd c (by decide +kernel)) | (exact absurd c (by assumption)) | (exact False.elim (c (by assumption))) | (conv => whnf)))
          | fail)
        all_goals (
          show Q none (tW (xm_u2 (xm_u2 M 0 5 (Int32.ofInt 3)) 0 6 (M 0 4)))
          rw [h4M]
          exact hw)
      · have hf2 : ¬ F 0 7 = nI 60 := fun z => hf (p_full_3.mpr z)
        have hx := x3 (hR2 hf)
        rw [← e07, ← e60] at hf2
        clear x0 x1 x2 x3 x4 x5 x6 x7 hQw hQw3 hR2 hR
        repeat' (first
          | ((with_reducible refine @And.intro (vp_in _ _) _ ?_ ?_); (· (first | with_reducible assumption | ((with_reducible refine t_vin ?_); decide) | ((with_reducible refine vp_in_nI ?_ ?_) <;> first | omega | decide) | (simp (disch := omega) only [xl_n, xl_m, nI_dec, nI_sb, nI_add, pk_mul]; (with_reducible refine vp_in_nI ?_ ?_) <;> first | omega | decide))); (conv => whnf))
          | (refine And.intro (by first | with_reducible assumption | exact (show tL _ = _ from rfl) | decide) ?_; (conv => whnf))
          | ((with_reducible refine @And.intro (_ = _) _ ?_ ?_); (· rfl); (conv => whnf))
          | ((with_reducible refine @And.intro (@LE.le Nat _ _ _) _ ?_ ?_); (· (first | exact Nat.zero_le _ | exact Nat.le_of_ble_eq_true rfl | omega)); (conv => whnf))
          | ((with_reducible refine @And.intro (@LT.lt Nat _ _ _) _ ?_ ?_); (· omega); (conv => whnf))
          | ((with_reducible refine @And.intro (∃ _, _ = _) _ ?_ ?_); (· exact ⟨_, rfl⟩); (conv => whnf))
          | ((with_reducible refine @And.intro (_ ∨ _) _ ?_ ?_); (· (first | exact Or.inl rfl | exact Or.inr rfl | exact t_b01 _ | assumption)); (conv => whnf))
          | ((with_reducible refine @And.intro (¬ (_ = _)) _ ?_ ?_); (· first | assumption | (with_reducible assumption)); (conv => whnf))
          | (refine hX _ _ _ _ _ _ ?_; (conv => whnf); fail_if_success show False)
          | (rw [t_si]; (conv => whnf))
          | (refine ⟨_, rfl, ?_⟩; (conv => whnf))
          | (refine ⟨_, _, rfl, ?_⟩; (conv => whnf))
          | (refine ⟨_, _, _, rfl, ?_⟩; (conv => whnf))
          | (refine ⟨_, _, _, _, rfl, ?_⟩; (conv => whnf))
          | (rw [hb]; (conv => whnf))
          | (rw [← eM]; (conv => whnf))
          | (rw [hK]; (conv => whnf))
          | (rw [e4M]; (conv => whnf))
          | (refine ⟨_, _, (by with_reducible assumption), ?_⟩; (conv => whnf))
          | (refine ⟨_, (by first | with_reducible assumption | exact rfl), ?_⟩; (conv => whnf))
          | (refine And.intro (fun c => ?_) (fun c => ?_) <;> (first | (exact absurd c (by decide +kernel)) | (exact absurd c (by assumption)) | (exact False.elim (c (by assumption))) | (conv => whnf)))
          | fail)
        exact hx
    · by_cases hf : p_full F 4 = true
      · have hw := hQw3 hf
        rw [p_full_4, ← e07, ← e60] at hf
        clear x0 x1 x2 x3 x4 x5 x6 x7 hQw hQw3 hR2 hR
        repeat' (first
          | ((with_reducible refine @And.intro (vp_in _ _) _ ?_ ?_); (· (first | with_reducible assumption | ((with_reducible refine t_vin ?_); decide) | ((with_reducible refine vp_in_nI ?_ ?_) <;> first | omega | decide) | (simp (disch := omega) only [xl_n, xl_m, nI_dec, nI_sb, nI_add, pk_mul]; (with_reducible refine vp_in_nI ?_ ?_) <;> first | omega | decide))); (conv => whnf))
          | (refine And.intro (by first | with_reducible assumption | exact (show tL _ = _ from rfl) | decide) ?_; (conv => whnf))
          | ((with_reducible refine @And.intro (_ = _) _ ?_ ?_); (· rfl); (conv => whnf))
          | ((with_reducible refine @And.intro (@LE.le Nat _ _ _) _ ?_ ?_); (· (first | exact Nat.zero_le _ | exact Nat.le_of_ble_eq_true rfl | omega)); (conv => whnf))
          | ((with_reducible refine @And.intro (@LT.lt Nat _ _ _) _ ?_ ?_); (· omega); (conv => whnf))
          | ((with_reducible refine @And.intro (∃ _, _ = _) _ ?_ ?_); (· exact ⟨_, rfl⟩); (conv => whnf))
          | ((with_reducible refine @And.intro (_ ∨ _) _ ?_ ?_); (· (first | exact Or.inl rfl | exact Or.inr rfl | exact t_b01 _ | assumption)); (conv => whnf))
          | ((with_reducible refine @And.intro (¬ (_ = _)) _ ?_ ?_); (· first | assumption | (with_reducible assumption)); (conv => whnf))
          | (refine hX _ _ _ _ _ _ ?_; (conv => whnf); fail_if_success show False)
          | (rw [t_si]; (conv => whnf))
          | (refine ⟨_, rfl, ?_⟩; (conv => whnf))
          | (refine ⟨_, _, rfl, ?_⟩; (conv => whnf))
          | (refine ⟨_, _, _, rfl, ?_⟩; (conv => whnf))
          | (refine ⟨_, _, _, _, rfl, ?_⟩; (conv => whnf))
          | (rw [hb]; (conv => whnf))
          | (rw [← eM]; (conv => whnf))
          | (rw [hK]; (conv => whnf))
          | (rw [e4M]; (conv => whnf))
          | (refine ⟨_, _, (by with_reducible assumption), ?_⟩; (conv => whnf))
          | (refine ⟨_, (by first | with_reducible assumption | exact rfl), ?_⟩; (conv => whnf))
          | (refine And.intro (fun c => ?_) (fun c => ?_) <;> (first | (exact absurd c (by decide +kernel)) | (exact absurd c (by assumption)) | (exact False.elim (c (by assumption))) | (conv => whnf)))
          | fail)
        all_goals (
          show Q none (tW (xm_u2 (xm_u2 M 0 5 (Int32.ofInt 3)) 0 6 (M 0 4)))
          rw [h4M]
          exact hw)
      · have hf2 : ¬ F 0 7 = nI 60 := fun z => hf (p_full_4.mpr z)
        have hx := x4 (hR2 hf)
        rw [← e07, ← e60] at hf2
        clear x0 x1 x2 x3 x4 x5 x6 x7 hQw hQw3 hR2 hR
        repeat' (first
          | ((with_reducible refine @And.intro (vp_in _ _) _ ?_ ?_); (· (first | with_reducible assumption | ((with_reducible refine t_vin ?_); decide) | ((with_reducible refine vp_in_nI ?_ ?_) <;> first | omega | decide) | (simp (disch := omega) only [xl_n, xl_m, nI_dec, nI_sb, nI_add, pk_mul]; (with_reducible refine vp_in_nI ?_ ?_) <;> first | omega | decide))); (conv => whnf))
          | (refine And.intro (by first | with_reducible assumption | exact (show tL _ = _ from rfl) | decide) ?_; (conv => whnf))
          | ((with_reducible refine @And.intro (_ = _) _ ?_ ?_); (· rfl); (conv => whnf))
          | ((with_reducible refine @And.intro (@LE.le Nat _ _ _) _ ?_ ?_); (· (first | exact Nat.zero_le _ | exact Nat.le_of_ble_eq_true rfl | omega)); (conv => whnf))
          | ((with_reducible refine @And.intro (@LT.lt Nat _ _ _) _ ?_ ?_); (· omega); (conv => whnf))
          | ((with_reducible refine @And.intro (∃ _, _ = _) _ ?_ ?_); (· exact ⟨_, rfl⟩); (conv => whnf))
          | ((with_reducible refine @And.intro (_ ∨ _) _ ?_ ?_); (· (first | exact Or.inl rfl | exact Or.inr rfl | exact t_b01 _ | assumption)); (conv => whnf))
          | ((with_reducible refine @And.intro (¬ (_ = _)) _ ?_ ?_); (· first | assumption | (with_reducible assumption)); (conv => whnf))
          | (refine hX _ _ _ _ _ _ ?_; (conv => whnf); fail_if_success show False)
          | (rw [t_si]; (conv => whnf))
          | (refine ⟨_, rfl, ?_⟩; (conv => whnf))
          | (refine ⟨_, _, rfl, ?_⟩; (conv => whnf))
          | (refine ⟨_, _, _, rfl, ?_⟩; (conv => whnf))
          | (refine ⟨_, _, _, _, rfl, ?_⟩; (conv => whnf))
          | (rw [hb]; (conv => whnf))
          | (rw [← eM]; (conv => whnf))
          | (rw [hK]; (conv => whnf))
          | (rw [e4M]; (conv => whnf))
          | (refine ⟨_, _, (by with_reducible assumption), ?_⟩; (conv => whnf))
          | (refine ⟨_, (by first | with_reducible assumption | exact rfl), ?_⟩; (conv => whnf))
          | (refine And.intro (fun c => ?_) (fun c => ?_) <;> (first | (exact absurd c (by decide +kernel)) | (exact absurd c (by assumption)) | (exact False.elim (c (by assumption))) | (conv => whnf)))
          | fail)
        exact hx
    · by_cases hf : p_full F 5 = true
      · have hw := hQw3 hf
        rw [p_full_5, ← e07, ← e60] at hf
        clear x0 x1 x2 x3 x4 x5 x6 x7 hQw hQw3 hR2 hR
        repeat' (first
          | ((with_reducible refine @And.intro (vp_in _ _) _ ?_ ?_); (· (first | with_reducible assumption | ((with_reducible refine t_vin ?_); decide) | ((with_reducible refine vp_in_nI ?_ ?_) <;> first | omega | decide) | (simp (disch := omega) only [xl_n, xl_m, nI_dec, nI_sb, nI_add, pk_mul]; (with_reducible refine vp_in_nI ?_ ?_) <;> first | omega | decide))); (conv => whnf))
          | (refine And.intro (by first | with_reducible assumption | exact (show tL _ = _ from rfl) | decide) ?_; (conv => whnf))
          | ((with_reducible refine @And.intro (_ = _) _ ?_ ?_); (· rfl); (conv => whnf))
          | ((with_reducible refine @And.intro (@LE.le Nat _ _ _) _ ?_ ?_); (· (first | exact Nat.zero_le _ | exact Nat.le_of_ble_eq_true rfl | omega)); (conv => whnf))
          | ((with_reducible refine @And.intro (@LT.lt Nat _ _ _) _ ?_ ?_); (· omega); (conv => whnf))
          | ((with_reducible refine @And.intro (∃ _, _ = _) _ ?_ ?_); (· exact ⟨_, rfl⟩); (conv => whnf))
          | ((with_reducible refine @And.intro (_ ∨ _) _ ?_ ?_); (· (first | exact Or.inl rfl | exact Or.inr rfl | exact t_b01 _ | assumption)); (conv => whnf))
          | ((with_reducible refine @And.intro (¬ (_ = _)) _ ?_ ?_); (· first | assumption | (with_reducible assumption)); (conv => whnf))
          | (refine hX _ _ _ _ _ _ ?_; (conv => whnf); fail_if_success show False)
          | (rw [t_si]; (conv => whnf))
          | (refine ⟨_, rfl, ?_⟩; (conv => whnf))
          | (refine ⟨_, _, rfl, ?_⟩; (conv => whnf))
          | (refine ⟨_, _, _, rfl, ?_⟩; (conv => whnf))
          | (refine ⟨_, _, _, _, rfl, ?_⟩; (conv => whnf))
          | (rw [hb]; (conv => whnf))
          | (rw [← eM]; (conv => whnf))
          | (rw [hK]; (conv => whnf))
          | (rw [e4M]; (conv => whnf))
          | (refine ⟨_, _, (by with_reducible assumption), ?_⟩; (conv => whnf))
          | (refine ⟨_, (by first | with_reducible assumption | exact rfl), ?_⟩; (conv => whnf))
          | (refine And.intro (fun c => ?_) (fun c => ?_) <;> (first | (exact absurd c (by decide +kernel)) | (exact absurd c (by assumption)) | (exact False.elim (c (by assumption))) | (conv => whnf)))
          | fail)
        all_goals (
          show Q none (tW (xm_u2 (xm_u2 M 0 5 (Int32.ofInt 3)) 0 6 (M 0 4)))
          rw [h4M]
          exact hw)
      · have hf2 : ¬ F 0 7 = nI 60 := fun z => hf (p_full_5.mpr z)
        have hx := x5 (hR2 hf)
        rw [← e07, ← e60] at hf2
        clear x0 x1 x2 x3 x4 x5 x6 x7 hQw hQw3 hR2 hR
        repeat' (first
          | ((with_reducible refine @And.intro (vp_in _ _) _ ?_ ?_); (· (first | with_reducible assumption | ((with_reducible refine t_vin ?_); decide) | ((with_reducible refine vp_in_nI ?_ ?_) <;> first | omega | decide) | (simp (disch := omega) only [xl_n, xl_m, nI_dec, nI_sb, nI_add, pk_mul]; (with_reducible refine vp_in_nI ?_ ?_) <;> first | omega | decide))); (conv => whnf))
          | (refine And.intro (by first | with_reducible assumption | exact (show tL _ = _ from rfl) | decide) ?_; (conv => whnf))
          | ((with_reducible refine @And.intro (_ = _) _ ?_ ?_); (· rfl); (conv => whnf))
          | ((with_reducible refine @And.intro (@LE.le Nat _ _ _) _ ?_ ?_); (· (first | exact Nat.zero_le _ | exact Nat.le_of_ble_eq_true rfl | omega)); (conv => whnf))
          | ((with_reducible refine @And.intro (@LT.lt Nat _ _ _) _ ?_ ?_); (· omega); (conv => whnf))
          | ((with_reducible refine @And.intro (∃ _, _ = _) _ ?_ ?_); (· exact ⟨_, rfl⟩); (conv => whnf))
          | ((with_reducible refine @And.intro (_ ∨ _) _ ?_ ?_); (· (first | exact Or.inl rfl | exact Or.inr rfl | exact t_b01 _ | assumption)); (conv => whnf))
          | ((with_reducible refine @And.intro (¬ (_ = _)) _ ?_ ?_); (· first | assumption | (with_reducible assumption)); (conv => whnf))
          | (refine hX _ _ _ _ _ _ ?_; (conv => whnf); fail_if_success show False)
          | (rw [t_si]; (conv => whnf))
          | (refine ⟨_, rfl, ?_⟩; (conv => whnf))
          | (refine ⟨_, _, rfl, ?_⟩; (conv => whnf))
          | (refine ⟨_, _, _, rfl, ?_⟩; (conv => whnf))
          | (refine ⟨_, _, _, _, rfl, ?_⟩; (conv => whnf))
          | (rw [hb]; (conv => whnf))
          | (rw [← eM]; (conv => whnf))
          | (rw [hK]; (conv => whnf))
          | (rw [e4M]; (conv => whnf))
          | (refine ⟨_, _, (by with_reducible assumption), ?_⟩; (conv => whnf))
          | (refine ⟨_, (by first | with_reducible assumption | exact rfl), ?_⟩; (conv => whnf))
          | (refine And.intro (fun c => ?_) (fun c => ?_) <;> (first | (exact absurd c (by decide +kernel)) | (exact absurd c (by assumption)) | (exact False.elim (c (by assumption))) | (conv => whnf)))
          | fail)
        exact hx
    · by_cases hf : p_full F 6 = true
      · have hw := hQw3 hf
        rw [p_full_6, ← e07, ← e60] at hf
        clear x0 x1 x2 x3 x4 x5 x6 x7 hQw hQw3 hR2 hR
        repeat' (first
          | ((with_reducible refine @And.intro (vp_in _ _) _ ?_ ?_); (· (first | with_reducible assumption | ((with_reducible refine t_vin ?_); decide) | ((with_reducible refine vp_in_nI ?_ ?_) <;> first | omega | decide) | (simp (disch := omega) only [xl_n, xl_m, nI_dec, nI_sb, nI_add, pk_mul]; (with_reducible refine vp_in_nI ?_ ?_) <;> first | omega | decide))); (conv => whnf))
          | (refine And.intro (by first | with_reducible assumption | exact (show tL _ = _ from rfl) | decide) ?_; (conv => whnf))
          | ((with_reducible refine @And.intro (_ = _) _ ?_ ?_); (· rfl); (conv => whnf))
          | ((with_reducible refine @And.intro (@LE.le Nat _ _ _) _ ?_ ?_); (· (first | exact Nat.zero_le _ | exact Nat.le_of_ble_eq_true rfl | omega)); (conv => whnf))
          | ((with_reducible refine @And.intro (@LT.lt Nat _ _ _) _ ?_ ?_); (· omega); (conv => whnf))
          | ((with_reducible refine @And.intro (∃ _, _ = _) _ ?_ ?_); (· exact ⟨_, rfl⟩); (conv => whnf))
          | ((with_reducible refine @And.intro (_ ∨ _) _ ?_ ?_); (· (first | exact Or.inl rfl | exact Or.inr rfl | exact t_b01 _ | assumption)); (conv => whnf))
          | ((with_reducible refine @And.intro (¬ (_ = _)) _ ?_ ?_); (· first | assumption | (with_reducible assumption)); (conv => whnf))
          | (refine hX _ _ _ _ _ _ ?_; (conv => whnf); fail_if_success show False)
          | (rw [t_si]; (conv => whnf))
          | (refine ⟨_, rfl, ?_⟩; (conv => whnf))
          | (refine ⟨_, _, rfl, ?_⟩; (conv => whnf))
          | (refine ⟨_, _, _, rfl, ?_⟩; (conv => whnf))
          | (refine ⟨_, _, _, _, rfl, ?_⟩; (conv => whnf))
          | (rw [hb]; (conv => whnf))
          | (rw [← eM]; (conv => whnf))
          | (rw [hK]; (conv => whnf))
          | (rw [e4M]; (conv => whnf))
          | (refine ⟨_, _, (by with_reducible assumption), ?_⟩; (conv => whnf))
          | (refine ⟨_, (by first | with_reducible assumption | exact rfl), ?_⟩; (conv => whnf))
          | (refine And.intro (fun c => ?_) (fun c => ?_) <;> (first | (exact absurd c (by decide +kernel)) | (exact absurd c (by assumption)) | (exact False.elim (c (by assumption))) | (conv => whnf)))
          | fail)
        all_goals (
          show Q none (tW (xm_u2 (xm_u2 M 0 5 (Int32.ofInt 3)) 0 6 (M 0 4)))
          rw [h4M]
          exact hw)
      · have hf2 : ¬ F 0 7 = nI 60 := fun z => hf (p_full_6.mpr z)
        have hx := x6 (hR2 hf)
        rw [← e07, ← e60] at hf2
        clear x0 x1 x2 x3 x4 x5 x6 x7 hQw hQw3 hR2 hR
        repeat' (first
          | ((with_reducible refine @And.intro (vp_in _ _) _ ?_ ?_); (· (first | with_reducible assumption | ((with_reducible refine t_vin ?_); decide) | ((with_reducible refine vp_in_nI ?_ ?_) <;> first | omega | decide) | (simp (disch := omega) only [xl_n, xl_m, nI_dec, nI_sb, nI_add, pk_mul]; (with_reducible refine vp_in_nI ?_ ?_) <;> first | omega | decide))); (conv => whnf))
          | (refine And.intro (by first | with_reducible assumption | exact (show tL _ = _ from rfl) | decide) ?_; (conv => whnf))
          | ((with_reducible refine @And.intro (_ = _) _ ?_ ?_); (· rfl); (conv => whnf))
          | ((with_reducible refine @And.intro (@LE.le Nat _ _ _) _ ?_ ?_); (· (first | exact Nat.zero_le _ | exact Nat.le_of_ble_eq_true rfl | omega)); (conv => whnf))
          | ((with_reducible refine @And.intro (@LT.lt Nat _ _ _) _ ?_ ?_); (· omega); (conv => whnf))
          | ((with_reducible refine @And.intro (∃ _, _ = _) _ ?_ ?_); (· exact ⟨_, rfl⟩); (conv => whnf))
          | ((with_reducible refine @And.intro (_ ∨ _) _ ?_ ?_); (· (first | exact Or.inl rfl | exact Or.inr rfl | exact t_b01 _ | assumption)); (conv => whnf))
          | ((with_reducible refine @And.intro (¬ (_ = _)) _ ?_ ?_); (· first | assumption | (with_reducible assumption)); (conv => whnf))
          | (refine hX _ _ _ _ _ _ ?_; (conv => whnf); fail_if_success show False)
          | (rw [t_si]; (conv => whnf))
          | (refine ⟨_, rfl, ?_⟩; (conv => whnf))
          | (refine ⟨_, _, rfl, ?_⟩; (conv => whnf))
          | (refine ⟨_, _, _, rfl, ?_⟩; (conv => whnf))
          | (refine ⟨_, _, _, _, rfl, ?_⟩; (conv => whnf))
          | (rw [hb]; (conv => whnf))
          | (rw [← eM]; (conv => whnf))
          | (rw [hK]; (conv => whnf))
          | (rw [e4M]; (conv => whnf))
          | (refine ⟨_, _, (by with_reducible assumption), ?_⟩; (conv => whnf))
          | (refine ⟨_, (by first | with_reducible assumption | exact rfl), ?_⟩; (conv => whnf))
          | (refine And.intro (fun c => ?_) (fun c => ?_) <;> (first | (exact absurd c (by decide +kernel)) | (exact absurd c (by assumption)) | (exact False.elim (c (by assumption))) | (conv => whnf)))
          | fail)
        exact hx
    · by_cases hf : p_full F 7 = true
      · have hw := hQw3 hf
        rw [p_full_7, ← e07, ← e60] at hf
        clear x0 x1 x2 x3 x4 x5 x6 x7 hQw hQw3 hR2 hR
        repeat' (first
          | ((with_reducible refine @And.intro (vp_in _ _) _ ?_ ?_); (· (first | with_reducible assumption | ((with_reducible refine t_vin ?_); decide) | ((with_reducible refine vp_in_nI ?_ ?_) <;> first | omega | decide) | (simp (disch := omega) only [xl_n, xl_m, nI_dec, nI_sb, nI_add, pk_mul]; (with_reducible refine vp_in_nI ?_ ?_) <;> first | omega | decide))); (conv => whnf))
          | (refine And.intro (by first | with_reducible assumption | exact (show tL _ = _ from rfl) | decide) ?_; (conv => whnf))
          | ((with_reducible refine @And.intro (_ = _) _ ?_ ?_); (· rfl); (conv => whnf))
          | ((with_reducible refine @And.intro (@LE.le Nat _ _ _) _ ?_ ?_); (· (first | exact Nat.zero_le _ | exact Nat.le_of_ble_eq_true rfl | omega)); (conv => whnf))
          | ((with_reducible refine @And.intro (@LT.lt Nat _ _ _) _ ?_ ?_); (· omega); (conv => whnf))
          | ((with_reducible refine @And.intro (∃ _, _ = _) _ ?_ ?_); (· exact ⟨_, rfl⟩); (conv => whnf))
          | ((with_reducible refine @And.intro (_ ∨ _) _ ?_ ?_); (· (first | exact Or.inl rfl | exact Or.inr rfl | exact t_b01 _ | assumption)); (conv => whnf))
          | ((with_reducible refine @And.intro (¬ (_ = _)) _ ?_ ?_); (· first | assumption | (with_reducible assumption)); (conv => whnf))
          | (refine hX _ _ _ _ _ _ ?_; (conv => whnf); fail_if_success show False)
          | (rw [t_si]; (conv => whnf))
          | (refine ⟨_, rfl, ?_⟩; (conv => whnf))
          | (refine ⟨_, _, rfl, ?_⟩; (conv => whnf))
          | (refine ⟨_, _, _, rfl, ?_⟩; (conv => whnf))
          | (refine ⟨_, _, _, _, rfl, ?_⟩; (conv => whnf))
          | (rw [hb]; (conv => whnf))
          | (rw [← eM]; (conv => whnf))
          | (rw [hK]; (conv => whnf))
          | (rw [e4M]; (conv => whnf))
          | (refine ⟨_, _, (by with_reducible assumption), ?_⟩; (conv => whnf))
          | (refine ⟨_, (by first | with_reducible assumption | exact rfl), ?_⟩; (conv => whnf))
          | (refine And.intro (fun c => ?_) (fun c => ?_) <;> (first | (exact absurd c (by decide +kernel)) | (exact absurd c (by assumption)) | (exact False.elim (c (by assumption))) | (conv => whnf)))
          | fail)
        all_goals (
          show Q none (tW (xm_u2 (xm_u2 M 0 5 (Int32.ofInt 3)) 0 6 (M 0 4)))
          rw [h4M]
          exact hw)
      · have hf2 : ¬ F 0 7 = nI 60 := fun z => hf (p_full_7.mpr z)
        have hx := x7 (hR2 hf)
        rw [← e07, ← e60] at hf2
        clear x0 x1 x2 x3 x4 x5 x6 x7 hQw hQw3 hR2 hR
        repeat' (first
          | ((with_reducible refine @And.intro (vp_in _ _) _ ?_ ?_); (· (first | with_reducible assumption | ((with_reducible refine t_vin ?_); decide) | ((with_reducible refine vp_in_nI ?_ ?_) <;> first | omega | decide) | (simp (disch := omega) only [xl_n, xl_m, nI_dec, nI_sb, nI_add, pk_mul]; (with_reducible refine vp_in_nI ?_ ?_) <;> first | omega | decide))); (conv => whnf))
          | (refine And.intro (by first | with_reducible assumption | exact (show tL _ = _ from rfl) | decide) ?_; (conv => whnf))
          | ((with_reducible refine @And.intro (_ = _) _ ?_ ?_); (· rfl); (conv => whnf))
          | ((with_reducible refine @And.intro (@LE.le Nat _ _ _) _ ?_ ?_); (· (first | exact Nat.zero_le _ | exact Nat.le_of_ble_eq_true rfl | omega)); (conv => whnf))
          | ((with_reducible refine @And.intro (@LT.lt Nat _ _ _) _ ?_ ?_); (· omega); (conv => whnf))
          | ((with_reducible refine @And.intro (∃ _, _ = _) _ ?_ ?_); (· exact ⟨_, rfl⟩); (conv => whnf))
          | ((with_reducible refine @And.intro (_ ∨ _) _ ?_ ?_); (· (first | exact Or.inl rfl | exact Or.inr rfl | exact t_b01 _ | assumption)); (conv => whnf))
          | ((with_reducible refine @And.intro (¬ (_ = _)) _ ?_ ?_); (· first | assumption | (with_reducible assumption)); (conv => whnf))
          | (refine hX _ _ _ _ _ _ ?_; (conv => whnf); fail_if_success show False)
          | (rw [t_si]; (conv => whnf))
          | (refine ⟨_, rfl, ?_⟩; (conv => whnf))
          | (refine ⟨_, _, rfl, ?_⟩; (conv => whnf))
          | (refine ⟨_, _, _, rfl, ?_⟩; (conv => whnf))
          | (refine ⟨_, _, _, _, rfl, ?_⟩; (conv => whnf))
          | (rw [hb]; (conv => whnf))
          | (rw [← eM]; (conv => whnf))
          | (rw [hK]; (conv => whnf))
          | (rw [e4M]; (conv => whnf))
          | (refine ⟨_, _, (by with_reducible assumption), ?_⟩; (conv => whnf))
          | (refine ⟨_, (by first | with_reducible assumption | exact rfl), ?_⟩; (conv => whnf))
          | (refine And.intro (fun c => ?_) (fun c => ?_) <;> (first | (exact absurd c (by decide +kernel)) | (exact absurd c (by assumption)) | (exact False.elim (c (by assumption))) | (conv => whnf)))
          | fail)
        exact hx
theorem ct_X11_clause {Iv : xI} (hI : xm_good Iv) : xm_Ct Iv yX11_clause (ws_ yX11_clause cX11_clause 5 none) 6 0 0 S_X11_clause := xm_enter (rt := 2) (init := false) (by decide +kernel) rfl (fun h => by cases h) (Or.inr (Or.inr (Or.inl ⟨rfl, rfl⟩))) (oX11_clause hI) body_X11_clause
theorem cv_X11_clause {Iv : xI} {own : String} {cc : ByteArray} {fr pc idx : Nat} (hI : xm_good Iv) (hdg : decode cc pc = .ok (.invokevirtual idx, 3)) (hl : xm_ml own idx yX11_clause) (hfr : 6 < fr) : xm_CallOK Iv own cc fr pc (pc + 3) 1 0 0 (xm_this 8 S_X11_clause) := xm_callV 8 hI (ct_X11_clause hI) hdg hl q2155 qs57 q145 q2156 rfl rfl (by decide +kernel) hfr (by decide)
