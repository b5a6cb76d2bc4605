/-! ===== the component's whole state ===== -/
set_option maxRecDepth 100000
def c_im (I : tI) : Nat := (I 0 15).toNatClampNeg
def c_l (I : tI) : Nat := (I 0 11).toNatClampNeg
def c_tp (I : tI) : Nat := (I 0 13).toNatClampNeg
def c_am (P : cP) (I : tI) (a : Nat) : Nat := if a < P.1 then (I (80 + a) 2).toNatClampNeg else 0
def cY (P : cP) (I : tI) : gX := ((fun h => if h < 9 then I 33 h else nI 0), (fun h g => if h < 9 ∧ g < 9 then I 34 (9 * h + g) else nI 0), P.1, (fun a => if a < P.1 then I (80 + a) 0 else nI 0), c_am P I, (fun a i => if i < c_am P I a then (I (90 + a) i).toNatClampNeg else 0))
def cN (I : tI) : gN := (c_bT I, cA I 5, cA I 6, I 5 6 - I 6 6, c_im I, (fun k => if k < c_im I then cA I (10 + k) else c_bT I), c_l I, (fun k i => if k < c_l I ∧ i < 3 then I 3 (3 * k + i) else nI 0), c_tp I, (fun k => if k < c_tp I then I 16 k &&& nI 255 else nI 0), I 0 14, (fun k => if k < 2 then I 4 k else nI 0))
def cG (P : cP) (I : tI) (L : List lC) : gG := (cK I L, cY P I, cN I)
def c_td (I : tI) (r : Nat) : Prop := c_is I r ∧ g_w (cA I r)
def c_acok (P : cP) (I : tI) (L : List lC) : Prop := ∀ a, a < P.1 → I (80 + a) 2 = nI (c_am P I a) ∧ c_am P I a ≤ 6 ∧ I (80 + a) 3 = g_bits (cG P I L) a ∧ ∀ i, i < c_am P I a → ∃ p, p < c_p I ∧ I (90 + a) i = nI p
def c_lnok (I : tI) : Prop := I 0 11 = nI (c_l I) ∧ c_l I ≤ 12 ∧ ∀ k, k < c_l I → ∃ p h y, p < c_p I ∧ h < c_h I ∧ 1 ≤ y ∧ y ≤ 60 ∧ I 3 (3 * k) = nI y ∧ I 3 (3 * k + 1) = nI p ∧ I 3 (3 * k + 2) = nI h
def c_good (P : cP) (Z : cX) (I : tI) (L : List lC) : Prop := c_ok I ∧ c_lw P Z I L ∧ (P.1 ≤ 6 ∧ I 40 2 = nI P.1 ∧ P.1 ≤ P.2.1 ∧ P.2.1 < 2 ^ 31) ∧ c_acok P I L ∧ I 0 9 = nM ∧ (I 0 15 = nI (c_im I) ∧ c_im I ≤ P.2.2.1 ∧ P.2.2.1 ≤ 3) ∧ c_lnok I ∧ (I 0 13 = nI (c_tp I) ∧ c_tp I ≤ 600) ∧ c_td I 5 ∧ c_td I 6 ∧ ∀ k, k < c_im I → c_td I (10 + k)
section
variable {P : cP} {Z : cX} {I : tI} {L : List lC}
theorem c_good.ok (h : c_good P Z I L) : c_ok I := h.1
theorem c_good.lw (h : c_good P Z I L) : c_lw P Z I L := h.2.1
theorem c_good.now (h : c_good P Z I L) : c_ts P Z I 5 L := ⟨Or.inl rfl, h.1, h.2.2.2.2.2.2.2.2.1.1, h.2.2.2.2.2.2.2.2.1.2, h.2.1⟩
theorem c_good.base (h : c_good P Z I L) : c_ts P Z I 6 L := ⟨Or.inr (Or.inl rfl), h.1, h.2.2.2.2.2.2.2.2.2.1.1, h.2.2.2.2.2.2.2.2.2.1.2, h.2.1⟩
theorem c_good.img (h : c_good P Z I L) {k : Nat} (hk : k < c_im I) : c_ts P Z I (10 + k) L := ⟨Or.inr (Or.inr (Or.inr ⟨by omega, by have := h.2.2.2.2.2.1; omega, by have := h.2.2.2.2.2.1; omega⟩)), h.1, (h.2.2.2.2.2.2.2.2.2.2 k hk).1, (h.2.2.2.2.2.2.2.2.2.2 k hk).2, h.2.1⟩
theorem c_5 : c_tr P 5 := Or.inl rfl
theorem c_6 : c_tr P 6 := Or.inr (Or.inl rfl)
theorem c_7 : c_tr P 7 := Or.inr (Or.inr (Or.inl rfl))
end
/-! what may change, and nothing is said of it -/
def c_free (b : Nat) : Prop := b = 2 ∨ b = 7 ∨ (70 ≤ b ∧ b < 76) ∨ b = 17 ∨ b = 18 ∨ b = 20 ∨ b = 21
def c_kp (I J : tI) : Prop := (∀ b, b ≠ 0 → b ≠ 4 → ¬ c_free b → J b = I b) ∧ ∀ k, k ≠ 10 → k ≠ 12 → k ≠ 19 → J 0 k = I 0 k
def c_sp (I J : tI) : Prop := (∀ b, b ≠ 0 → ¬ c_free b → J b = I b) ∧ ∀ k, k ≠ 10 → k ≠ 12 → k ≠ 19 → J 0 k = I 0 k
theorem c_sp.rf {I : tI} : c_sp I I := ⟨fun _ _ _ => rfl, fun _ _ _ _ => rfl⟩
theorem c_sp.tr {I J K : tI} (h : c_sp I J) (h2 : c_sp J K) : c_sp I K := ⟨fun b a c => (h2.1 b a c).trans (h.1 b a c), fun k a b c => (h2.2 k a b c).trans (h.2 k a b c)⟩
theorem c_sp.kp {I J : tI} (h : c_sp I J) : c_kp I J := ⟨fun b a _ c => h.1 b a c, h.2⟩
theorem c_sp.u {I : tI} {b k : Nat} {v : Int32} (h : c_free b) : c_sp I (xm_u2 I b k v) := ⟨fun b' _ h2 => funext fun j => xm_u2_ne (fun e => by subst e; exact h2 h) j, fun k _ _ _ => xm_u2_ne (by unfold c_free at h; omega) k⟩
theorem c_sp.u0 {I : tI} {k : Nat} {v : Int32} (h : k = 10 ∨ k = 12 ∨ k = 19) : c_sp I (xm_u2 I 0 k v) := ⟨fun b hb _ => funext fun j => xm_u2_ne hb j, fun j h1 h2 h3 => by rw [xm_u2_at, if_neg (by omega)]⟩
theorem c_sc.sp {I J : tI} (h : c_sc 7 I J) : c_sp I J := ⟨fun b _ h2 => h b (fun e => h2 (Or.inl e)) (fun e => h2 (Or.inr (Or.inl e))) (fun e => h2 (Or.inr (Or.inr (Or.inl (by omega))))), fun k _ _ _ => by rw [h 0 (by decide) (by decide) (by decide)]⟩
theorem c_fa.sp {I J : tI} (h : c_fa I J) : c_sp I J := ⟨fun b _ h2 => h b (fun e => h2 (Or.inl e)), fun k _ _ _ => by rw [h 0 (by decide)]⟩
theorem c_ua_sp {I : tI} {b : Nat} {f : Nat → Int32} (h : c_free b) : c_sp I (c_ua I b f) := ⟨fun b' _ h2 => funext fun j => if_neg (fun e => by subst e; exact h2 h), fun k _ _ _ => if_neg (by unfold c_free at h; omega)⟩
section
variable {P : cP} {Z : cX} {I J : tI} {L : List lC}
theorem c_kp.f (h : c_kp I J) {b : Nat} (h1 : (b = 1 ∨ b = 3 ∨ b = 5 ∨ b = 6 ∨ b = 16 ∨ (8 ≤ b ∧ b < 17) ∨ (30 ≤ b ∧ b < 70) ∨ 80 ≤ b)) : J b = I b := h.1 b (by omega) (by omega) (by unfold c_free; omega)
theorem c_kp.hp (h : c_kp I J) : c_h J = c_h I ∧ c_p J = c_p I := by
  unfold c_h c_p
  rw [h.f (Or.inl rfl)]
  exact ⟨rfl, rfl⟩
theorem c_kp.ok (h : c_kp I J) (hg : c_ok I) : c_ok J := by
  unfold c_ok c_h c_p at *
  rw [h.f (Or.inl rfl)]
  exact hg
theorem c_limp_M (h9 : I 0 9 = nM) {k : Nat} (hk : k < 9) : c_limp I k = I 30 k := by
  unfold c_limp
  rw [h9, if_neg (nM_ne (by omega))]
theorem c_kp.K (h : c_kp I J) (hok : c_ok I) (h9 : I 0 9 = nM) : cK J L = cK I L := by
  have e9 : J 0 9 = nM := by rw [h.2 9 (by decide) (by decide) (by decide)]; exact h9
  have hh := hok.2.1
  unfold cK
  rw [h.hp.1, h.hp.2, h.f (b := 1) (by omega), h.f (b := 31) (by omega), h.f (b := 32) (by omega), h.f (b := 35) (by omega), h.f (b := 36) (by omega), h.f (b := 39) (by omega)]
  have e : (fun k => if k < c_h I then c_limp J k else nI 0) = (fun k => if k < c_h I then c_limp I k else nI 0) := funext fun k => p_ic fun q => by
    rw [c_limp_M e9 (by omega), c_limp_M h9 (by omega), h.f (b := 30) (by omega)]
  rw [e]
theorem c_kp.am (h : c_kp I J) (h6 : P.1 ≤ 6) : c_am P J = c_am P I := funext fun a => p_ic fun q => by rw [h.f (b := 80 + a) (by omega)]
theorem c_kp.Y (h : c_kp I J) (h6 : P.1 ≤ 6) : cY P J = cY P I := by
  unfold cY
  rw [h.am h6, h.f (b := 33) (by omega), h.f (b := 34) (by omega)]
  have e1 : (fun a => if a < P.1 then J (80 + a) 0 else nI 0) = (fun a => if a < P.1 then I (80 + a) 0 else nI 0) := funext fun a => p_ic fun q => by rw [h.f (b := 80 + a) (by omega)]
  have e2 : (fun a i => if i < c_am P I a then (J (90 + a) i).toNatClampNeg else 0) = (fun a i => if i < c_am P I a then (I (90 + a) i).toNatClampNeg else 0) := funext fun a => funext fun i => p_ic fun q => by rw [h.f (b := 90 + a) (by omega)]
  rw [e1, e2]
theorem c_kp.A (h : c_kp I J) {r : Nat} (hr : r = 5 ∨ r = 6 ∨ (10 ≤ r ∧ r < 13)) : cA J r = cA I r := cA_eq (fun k hk => h.f (by omega)) (by rw [h.f (by omega)])
theorem c_kp.td (h : c_kp I J) {r : Nat} (hr : r = 5 ∨ r = 6 ∨ (10 ≤ r ∧ r < 13)) (ht : c_td I r) : c_td J r := by
  refine ⟨fun k hk => ?_, by rw [h.A hr]; exact ht.2⟩
  rw [h.hp.1] at hk
  rw [h.A hr, h.f (b := 10 * r) (by omega), h.f (b := 31) (by omega), h.f (b := r) (by omega)]
  exact ht.1 k hk
def g_rfN (n : gN) (f : Nat → Int32) : gN := (n.1, n.2.1, n.2.2.1, n.2.2.2.1, n.2.2.2.2.1, n.2.2.2.2.2.1, n.2.2.2.2.2.2.1, n.2.2.2.2.2.2.2.1, n.2.2.2.2.2.2.2.2.1, n.2.2.2.2.2.2.2.2.2.1, n.2.2.2.2.2.2.2.2.2.2.1, f)
theorem c_kp.imn (h : c_kp I J) : c_im J = c_im I ∧ c_l J = c_l I ∧ c_tp J = c_tp I := by
  unfold c_im c_l c_tp
  rw [h.2 15 (by decide) (by decide) (by decide), h.2 11 (by decide) (by decide) (by decide), h.2 13 (by decide) (by decide) (by decide)]
  exact ⟨rfl, rfl, rfl⟩
theorem g_bits_x {G H : gG} {a : Nat} (h : G.2.1 = H.2.1) : g_bits G a = g_bits H a := by
  have e1 : gmany G = gmany H := funext fun k => by unfold gmany; rw [h]
  have e2 : gpup G = gpup H := funext fun k => funext fun i => by unfold gpup; rw [h]
  unfold g_bits g_bitsN
  rw [e1, e2]
theorem c_kp.good (h : c_kp I J) (hg : c_good P Z I L) : c_good P Z J L := by
  obtain ⟨g1, g2, g3, g4, g5, g6, g7, g8, g9, g10, g11⟩ := hg
  have e9 : J 0 9 = nM := by rw [h.2 9 (by decide) (by decide) (by decide)]; exact g5
  have eY := h.Y (P := P) g3.1
  refine ⟨h.ok g1, g2.eq fun a ha => h.f (by omega), ⟨g3.1, by rw [h.f (b := 40) (by omega)]; exact g3.2.1, g3.2.2⟩, fun a ha => ?_, e9, ?_, ?_, ?_, h.td (by omega) g9, h.td (by omega) g10, fun k hk => ?_⟩
  · have h6 := g3.1
    have eb : g_bits (cG P J L) a = g_bits (cG P I L) a := g_bits_x eY
    rw [h.am g3.1, h.f (b := 80 + a) (by omega), h.f (b := 90 + a) (by omega), eb, h.hp.2]
    exact g4 a ha
  · rw [h.imn.1, h.2 15 (by decide) (by decide) (by decide)]
    exact g6
  · unfold c_lnok
    rw [h.imn.2.1, h.2 11 (by decide) (by decide) (by decide), h.hp.1, h.hp.2, h.f (b := 3) (by omega)]
    exact g7
  · rw [h.imn.2.2, h.2 13 (by decide) (by decide) (by decide)]
    exact g8
  · rw [h.imn.1] at hk
    exact h.td (by omega) (g11 k hk)
theorem c_kp.N (h : c_kp I J) (hg : c_good P Z I L) : cN J = g_rfN (cN I) (fun k => if k < 2 then J 4 k else nI 0) := by
  have g6 := hg.2.2.2.2.2.1
  have eb : c_bT J = c_bT I := by
    unfold c_bT
    rw [h.f (b := 37) (by omega), h.f (b := 38) (by omega)]
  unfold cN g_rfN
  rw [eb, h.A (r := 5) (by omega), h.A (r := 6) (by omega), h.f (b := 5) (by omega), h.f (b := 6) (by omega), h.imn.1, h.imn.2.1, h.imn.2.2, h.f (b := 3) (by omega), h.f (b := 16) (by omega), h.2 14 (by decide) (by decide) (by decide)]
  have e : (fun k => if k < c_im I then cA J (10 + k) else c_bT I) = (fun k => if k < c_im I then cA I (10 + k) else c_bT I) := funext fun k => p_ic fun q => h.A (by omega)
  rw [e]
theorem c_sp.N (h : c_sp I J) (hg : c_good P Z I L) : cN J = cN I := by
  rw [h.kp.N hg, h.1 4 (by decide) (by unfold c_free; omega)]
  rfl
theorem c_sp.G (h : c_sp I J) (hg : c_good P Z I L) : cG P J L = cG P I L := by
  unfold cG
  rw [h.kp.K hg.1 hg.2.2.2.2.1, h.kp.Y hg.2.2.1.1, h.N hg]
theorem c_sp.good (h : c_sp I J) (hg : c_good P Z I L) : c_good P Z J L := h.kp.good hg
end
/-! what a public method owes -/
def c_P (P : cP) (Z : cX) (L : List lC) (G : gG) (Q : Option Value → tI → Prop) (QX : Nat → Nat → tI → Prop) (q : gR) : Prop := (∀ J, c_good P Z J L → cG P J L = q.2.2 → q.1 = nI 0 → Q (some (.int q.2.1)) J) ∧ ∀ r J a, r < 2 → 1000 ≤ a → c_good P Z J L → cG P J L = q.2.2 → ¬ q.1 = nI 0 → q.2.2 = g_ref G r → QX (1 - r) a J
section
variable {P : cP} {Z : cX} {I J : tI} {L : List lC} {Q : Option Value → tI → Prop} {QX : Nat → Nat → tI → Prop}
theorem c_ask {G : gG} {v x : Int32} (h : c_P P Z L G Q QX (g_says (cG P I L) v)) (hg : c_good P Z I L) (hs : c_sp I J) (hx : x = v) : Q (some (.int x)) J := by
  rw [hx]
  exact h.1 J (hs.good hg) (hs.G hg) rfl
theorem c_ref {v what : Int32} {c : Bool} {y : gR} {r a : Nat} (h : c_P P Z L (cG P I L) Q QX (g_ck (cG P I L) c what r y)) (hg : c_good P Z I L) (hs : c_sp I J) (hc : c = false) (hr : r < 2) (ha : 1000 ≤ a) (hw : ¬ what = nI 0) (hv : v = J 4 r + nI 1) : QX (1 - r) a (xm_u2 J 4 r v) := by
  subst hc
  have hk : c_kp I (xm_u2 J 4 r v) := ⟨fun b h1 h2 h3 => by rw [← hs.1 b h1 h3]; exact funext fun j => xm_u2_ne h2 j, fun k h1 h2 h3 => by rw [← hs.2 k h1 h2 h3]; exact xm_u2_ne (by decide) k⟩
  refine h.2 r _ a hr ha (hk.good hg) ?_ hw rfl
  show (cK _ L, cY P _, cN _) = _
  rw [hk.K hg.1 hg.2.2.2.2.1, hk.Y hg.2.2.1.1, hk.N hg]
  have e4 : J 4 = I 4 := hs.1 4 (by decide) (by unfold c_free; omega)
  have e : (fun k => if k < 2 then xm_u2 J 4 r v 4 k else nI 0) = g_upd (fun k => if k < 2 then I 4 k else nI 0) r ((fun k => if k < 2 then I 4 k else nI 0) r + nI 1) := by
    funext k
    unfold g_upd
    rw [xm_u2_at, hv, e4]
    by_cases q : k = r
    · subst q
      simp [hr]
    · simp [q]
  rw [e]
  rfl
end
