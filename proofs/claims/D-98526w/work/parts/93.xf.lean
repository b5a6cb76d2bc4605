/-! ===== a contract within a larger world: roles renamed, the rest kept ===== -/
set_option maxRecDepth 100000
def xm_rn (f : Nat → Nat) (v : Value) : Value := match v with
  | .ref a => .ref (f a)
  | v => v
/-- the world u lies in w, its roles renamed by f -/
def xm_emb (f : Nat → Nat) (u w : xW) : Prop := (∀ a, u.1 a ≠ none → w.1 (f a) = u.1 a ∧ ∀ k, w.2.1 (f a) k = u.2.1 a k ∧ w.2.2.1 (f a) k = (u.2.2.1 a k).map f ∧ w.2.2.2 (f a) k = u.2.2.2 a k) ∧
  (∀ a, 1000 ≤ a → f a = a) ∧ ∀ a a', u.1 a ≠ none → u.1 a' ≠ none → f a = f a' → a = a'
/-- .. all of it may be written -/
def xm_wrt (u : xW) : Prop := ∀ a t n, u.1 a = some (t, n) → t < 200
/-- behind the call: c lies there under h, what lay beside u is kept -/
def xm_ext (f : Nat → Nat) (u w : xW) (h : Nat → Nat) (c w' : xW) : Prop := xm_emb h c w' ∧
  (∀ x, (∀ a, u.1 a ≠ none → f a ≠ x) → w.1 x ≠ none → w'.1 x = w.1 x ∧ ∀ k, w'.2.1 x k = w.2.1 x k ∧ w'.2.2.1 x k = w.2.2.1 x k ∧ w'.2.2.2 x k = w.2.2.2 x k) ∧
  (∀ a, c.1 a ≠ none → (∀ z, u.1 z ≠ none → f z ≠ h a) → w.1 (h a) = none)
def xm_frS (S : xS) : xS := fun as w Q QX => ∃ (f : Nat → Nat) (u : xW) (bs : List Value), xm_emb f u w ∧ xm_wrt u ∧ as = bs.map (xm_rn f) ∧
  S bs u (fun v u' => ∃ g c, xm_emb g c u' ∧ xm_wrt c ∧ ∀ w', xm_ext f u w (fun a => f (g a)) c w' → Q (v.map (xm_rn f)) w') (fun e q u' => ∃ g c, xm_emb g c u' ∧ xm_wrt c ∧ ∀ w', xm_ext f u w (fun a => f (g a)) c w' → QX e (f q) w')
section XF
variable {D : va_G} {dA : Nat → ClassId} {b : Nat → Nat} {A : Nat → Prop} {f : Nat → Nat} {u w u' : xW} {H H' : Heap}
def xm_b0 (b f : Nat → Nat) (a : Nat) : Nat := xm_phi b (f a)
theorem xm_b0_phi (hf : ∀ a, 1000 ≤ a → f a = a) (a : Nat) : xm_phi (xm_b0 b f) a = xm_phi b (f a) := by
  unfold xm_phi
  by_cases h : a < 1000
  · rw [if_pos h]
    rfl
  · rw [if_neg h, hf a (by omega), if_neg h]
theorem xm_b0_cv (hf : ∀ a, 1000 ≤ a → f a = a) (v : Value) : xm_cv (xm_b0 b f) v = xm_cv b (xm_rn f v) := by
  cases v <;> simp [xm_cv, xm_rn, xm_b0_phi hf]
theorem xm_b0_fv (hf : ∀ a, 1000 ≤ a → f a = a) (ty : FieldType) (i : Int32) (r : Option Nat) (j : Int64) : xm_fv (xm_b0 b f) ty i r j = xm_fv b ty i (r.map f) j := by
  unfold xm_fv
  have : r.map (xm_phi (xm_b0 b f)) = (r.map f).map (xm_phi b) := by
    cases r with
    | none => rfl
    | some a => simp [xm_b0_phi hf]
  rw [this]
/-- which cells the callee may change -/
def xm_A0 (b f : Nat → Nat) (u : xW) (sz : Nat) (q : Nat) : Prop := (∃ a, u.1 a ≠ none ∧ q = xm_phi b (f a)) ∨ sz ≤ q
theorem xm_emb.R (hE : xm_emb f u w) (hR : xm_R D dA b w H) : xm_R D dA (xm_b0 b f) u H := by
  obtain ⟨h1, h2, h3⟩ := hE
  refine ⟨fun a t n h => ?_, fun a a' ha ha' hp => ?_⟩
  · have hu : u.1 a ≠ none := by rw [h]; exact fun z => by cases z
    obtain ⟨e1, e2⟩ := h1 a hu
    have := hR.1 (f a) t n (by rw [e1, h])
    unfold xm_at at this ⊢
    rw [xm_b0_phi h2]
    simp only [xm_b0_fv h2, ← (e2 _).1, ← (e2 _).2.1, ← (e2 _).2.2]
    exact this
  · rw [xm_b0_phi h2, xm_b0_phi h2] at hp
    exact h3 a a' ha ha' (hR.2 _ _ (by rw [(h1 a ha).1]; exact ha) (by rw [(h1 a' ha').1]; exact ha') hp)
theorem xm_emb.dom (hE : xm_emb f u w) (hw : xm_wrt u) (sz : Nat) : xm_dom (xm_b0 b f) (xm_A0 b f u sz) u := fun a t n h => Or.inl ⟨hw a t n h, Or.inl ⟨a, (by rw [h]; exact fun z => by cases z), xm_b0_phi hE.2.1 a⟩⟩
theorem xm_emb.sub (hE : xm_emb f u w) (hw : xm_wrt u) (hd : xm_dom b A w) {sz : Nat} (hA : ∀ q, sz ≤ q → A q) : ∀ q, xm_A0 b f u sz q → A q := by
  rintro q (⟨a, ha, rfl⟩ | h)
  · cases e : u.1 a with
    | none => exact absurd e ha
    | some p =>
      rcases hd (f a) p.1 p.2 (by rw [(hE.1 a ha).1, e]) with h | h
      · exact h.2
      · have := hw a p.1 p.2 e
        omega
  · exact hA q h
/-- whose image x is -/
noncomputable def xm_inv (h : Nat → Nat) (c : xW) (x : Nat) : Option Nat := @dite _ (∃ a, c.1 a ≠ none ∧ h a = x) (Classical.propDecidable _) (fun q => some q.choose) (fun _ => none)
theorem xm_inv_s {h : Nat → Nat} {c : xW} {x a : Nat} (q : xm_inv h c x = some a) : c.1 a ≠ none ∧ h a = x := by
  unfold xm_inv at q
  split at q
  · rename_i z
    cases q
    exact z.choose_spec
  · cases q
theorem xm_inv_n {h : Nat → Nat} {c : xW} {x : Nat} (q : xm_inv h c x = none) : ∀ a, c.1 a ≠ none → h a ≠ x := by
  unfold xm_inv at q
  split at q
  · cases q
  · rename_i z
    exact fun a h1 h2 => z ⟨a, h1, h2⟩
theorem xm_inv_f {h : Nat → Nat} {c : xW} {a : Nat} (hi : ∀ a a', c.1 a ≠ none → c.1 a' ≠ none → h a = h a' → a = a') (ha : c.1 a ≠ none) : xm_inv h c (h a) = some a := by
  cases q : xm_inv h c (h a) with
  | none => exact absurd rfl (xm_inv_n q a ha)
  | some z =>
    obtain ⟨h1, h2⟩ := xm_inv_s q
    rw [hi z a h1 ha h2]
/-- the larger world behind the call -/
noncomputable def xm_back (f : Nat → Nat) (u w : xW) (h : Nat → Nat) (c : xW) : xW :=
  ((fun x => match xm_inv h c x with | some a => c.1 a | none => match xm_inv f u x with | some _ => none | none => w.1 x),
   (fun x k => match xm_inv h c x with | some a => c.2.1 a k | none => w.2.1 x k),
   (fun x k => match xm_inv h c x with | some a => (c.2.2.1 a k).map h | none => w.2.2.1 x k),
   (fun x k => match xm_inv h c x with | some a => c.2.2.2 a k | none => w.2.2.2 x k))
theorem xm_back_s {h : Nat → Nat} {c : xW} {x a : Nat} (q : xm_inv h c x = some a) : (xm_back f u w h c).1 x = c.1 a ∧ ∀ k, (xm_back f u w h c).2.1 x k = c.2.1 a k ∧ (xm_back f u w h c).2.2.1 x k = (c.2.2.1 a k).map h ∧ (xm_back f u w h c).2.2.2 x k = c.2.2.2 a k := by
  simp [xm_back, q]
theorem xm_back_n {h : Nat → Nat} {c : xW} {x : Nat} (q : xm_inv h c x = none) (q2 : xm_inv f u x = none) : (xm_back f u w h c).1 x = w.1 x ∧ ∀ k, (xm_back f u w h c).2.1 x k = w.2.1 x k ∧ (xm_back f u w h c).2.2.1 x k = w.2.2.1 x k ∧ (xm_back f u w h c).2.2.2 x k = w.2.2.2 x k := by
  simp [xm_back, q, q2]
theorem xm_back_o {h : Nat → Nat} {c : xW} {x a : Nat} (q : xm_inv h c x = none) (q2 : xm_inv f u x = some a) : (xm_back f u w h c).1 x = none := by simp only [xm_back, q, q2]
theorem xm_back_ok {h : Nat → Nat} {c : xW} (hE : xm_emb f u w) (hR : xm_R D dA b w H) (hd : xm_dom b A w) (hA : ∀ q, H.size ≤ q → A q) (hw : xm_wrt u)
    (hh : ∀ a, 1000 ≤ a → h a = a) (hc : xm_R D dA (xm_b0 b h) c H') (hcd : ∀ a, c.1 a ≠ none → xm_A0 b f u H.size (xm_phi b (h a))) (hcw : xm_wrt c)
    (hF : ∀ q, q < H.size → ¬ xm_A0 b f u H.size q → H'[q]? = H[q]?) :
    xm_ext f u w h c (xm_back f u w h c) ∧ xm_R D dA b (xm_back f u w h c) H' ∧ xm_dom b A (xm_back f u w h c) := by
  have hinj : ∀ a a', c.1 a ≠ none → c.1 a' ≠ none → h a = h a' → a = a' := fun a a' h1 h2 h3 => hc.2 a a' h1 h2 (by rw [xm_b0_phi hh, xm_b0_phi hh, h3])
  -- what lies beside u isn't touched
  have hbes : ∀ x, (∀ a, u.1 a ≠ none → f a ≠ x) → w.1 x ≠ none → ¬ xm_A0 b f u H.size (xm_phi b x) := by
    rintro x h1 h2 (⟨a, ha, e⟩ | e)
    · exact h1 a ha (hR.2 _ _ (by rw [(hE.1 a ha).1]; exact ha) h2 e.symm)
    · have := hR.lt h2
      omega
  have hnot : ∀ x, (∀ a, u.1 a ≠ none → f a ≠ x) → w.1 x ≠ none → xm_inv h c x = none := by
    intro x h1 h2
    cases q : xm_inv h c x with
    | none => rfl
    | some a =>
      obtain ⟨q1, q2⟩ := xm_inv_s q
      have := hcd a q1
      rw [q2] at this
      exact absurd this (hbes x h1 h2)
  have hnu : ∀ x, (∀ a, u.1 a ≠ none → f a ≠ x) → xm_inv f u x = none := by
    intro x h1
    cases q : xm_inv f u x with
    | none => rfl
    | some a =>
      obtain ⟨q1, q2⟩ := xm_inv_s q
      exact absurd q2 (h1 a q1)
  refine ⟨⟨⟨fun a ha => xm_back_s (xm_inv_f hinj ha), hh, hinj⟩, fun x h1 h2 => xm_back_n (hnot x h1 h2) (hnu x h1), fun a ha h1 => ?_⟩, ⟨fun x t n hx => ?_, fun x x' hx hx' hp => ?_⟩, fun x t n hx => ?_⟩
  · cases q : w.1 (h a) with
    | none => rfl
    | some z => exact absurd (hcd a ha) (hbes (h a) h1 (by rw [q]; exact fun z => by cases z))
  · cases q : xm_inv h c x with
    | some a =>
      obtain ⟨q1, q2⟩ := xm_inv_s q
      obtain ⟨e1, e2⟩ := xm_back_s (f := f) (u := u) (w := w) q
      have := hc.1 a t n (by rw [← e1]; exact hx)
      unfold xm_at at this ⊢
      rw [xm_b0_phi hh, q2] at this
      simp only [xm_b0_fv hh] at this
      simp only [(e2 _).1, (e2 _).2.1, (e2 _).2.2]
      exact this
    | none =>
      cases q2 : xm_inv f u x with
      | some a =>
        rw [xm_back_o q q2] at hx
        cases hx
      | none =>
        obtain ⟨e1, e2⟩ := xm_back_n (w := w) q q2
        rw [e1] at hx
        have hx0 : w.1 x ≠ none := by rw [hx]; exact fun z => by cases z
        exact (hR.1 x t n hx).kept (hF _ (hR.lt hx0) (hbes x (xm_inv_n q2) hx0)) (fun k => (e2 k).1) (fun k => (e2 k).2.1) (fun k => (e2 k).2.2)
  · have old : ∀ x, (xm_back f u w h c).1 x ≠ none → xm_inv h c x = none → w.1 x ≠ none ∧ ∀ a, u.1 a ≠ none → f a ≠ x := by
      intro x hx q
      cases q2 : xm_inv f u x with
      | some a =>
        rw [xm_back_o q q2] at hx
        exact absurd rfl hx
      | none =>
        rw [(xm_back_n (w := w) q q2).1] at hx
        exact ⟨hx, xm_inv_n q2⟩
    cases q : xm_inv h c x with
    | some a =>
      obtain ⟨q1, q2⟩ := xm_inv_s q
      cases q' : xm_inv h c x' with
      | some a' =>
        obtain ⟨q1', q2'⟩ := xm_inv_s q'
        rw [← q2, ← q2', hc.2 a a' q1 q1' (by rw [xm_b0_phi hh, xm_b0_phi hh, q2, q2', hp])]
      | none =>
        obtain ⟨o1, o2⟩ := old x' hx' q'
        have := hcd a q1
        rw [q2, hp] at this
        exact absurd this (hbes x' o2 o1)
    | none =>
      obtain ⟨o1, o2⟩ := old x hx q
      cases q' : xm_inv h c x' with
      | some a' =>
        obtain ⟨q1', q2'⟩ := xm_inv_s q'
        have := hcd a' q1'
        rw [q2', ← hp] at this
        exact absurd this (hbes x o2 o1)
      | none =>
        obtain ⟨o1', o2'⟩ := old x' hx' q'
        exact hR.2 x x' o1 o1' hp
  · cases q : xm_inv h c x with
    | some a =>
      obtain ⟨q1, q2⟩ := xm_inv_s q
      rw [(xm_back_s (f := f) (u := u) (w := w) q).1] at hx
      have := hcd a q1
      rw [q2] at this
      exact Or.inl ⟨hcw a t n hx, hE.sub hw hd hA _ this⟩
    | none =>
      cases q2 : xm_inv f u x with
      | some a =>
        rw [xm_back_o q q2] at hx
        cases hx
      | none =>
        rw [(xm_back_n (w := w) q q2).1] at hx
        exact hd x t n hx
end XF
set_option maxHeartbeats 1000000 in
theorem xm_frame {Iv : xI} (hI : xm_good Iv) {y : MethodName} {ws : List Cond} {fr mc ms : Nat} {S : xS} (h : xm_Ct Iv y ws fr mc ms S) : xm_Ct Iv y ws fr mc ms (xm_frS S) := by
  intro l hl D dA b A avs w Q QX sz hS hA hdom
  obtain ⟨f, u, bs, hE, hw, rfl, hS⟩ := hS
  have hf := hE.2.1
  have hM := h l hl D dA (xm_b0 b f) (xm_A0 b f u sz) bs u _ _ sz hS (fun q hq => Or.inr hq) (hE.dom hw sz)
  have hsub := hE.sub hw hdom hA
  -- behind the call
  have key : ∀ {st t : State} {u' : xW} {g : Nat → Nat} {c : xW}, st.heap.size = sz → xm_R D dA b w st.heap → xm_R D dA (xm_b0 b f) u' t.heap → xm_dom (xm_b0 b f) (xm_A0 b f u sz) u' → va_F (xm_A0 b f u sz) st t → xm_emb g c u' → xm_wrt c →
      xm_ext f u w (fun a => f (g a)) c (xm_back f u w (fun a => f (g a)) c) ∧ xm_R D dA b (xm_back f u w (fun a => f (g a)) c) t.heap ∧ xm_dom b A (xm_back f u w (fun a => f (g a)) c) := by
    intro st t u' g c hsz hR hR' hd' hF hg hcw
    subst hsz
    have hgf : ∀ a, 1000 ≤ a → f (g a) = a := fun a ha => by rw [hg.2.1 a ha, hf a ha]
    have e0 : xm_b0 (xm_b0 b f) g = xm_b0 b (fun a => f (g a)) := funext fun a => xm_b0_phi hf (g a)
    have hRc := hg.R hR'
    rw [e0] at hRc
    refine xm_back_ok hE hR hdom hA hw hgf hRc (fun a ha => ?_) hcw hF.2
    cases e : c.1 a with
    | none => exact absurd e ha
    | some z =>
      have h1 := hd' (g a) z.1 z.2 (by rw [(hg.1 a ha).1, e])
      have h2 := hcw a z.1 z.2 e
      rcases h1 with h1 | h1
      · have := h1.2
        rw [xm_b0_phi hf] at this
        exact this
      · omega
  refine Jvm.Free.MetFree.mono hM (fun a s hp => ?_) (fun _ _ _ _ _ h => h) (fun a s o t hp hq => ?_)
  · obtain ⟨h1, h2, h3, h4, h5, h6⟩ := hp
    refine ⟨?_, h2, hE.R h3, h4, h5, hI.2.2.2 A _ s _ hsub h6⟩
    rw [h1]
    congr 1
    simp [xm_cs, xm_b0_cv hf, Function.comp_def]
  · obtain ⟨h1, h2, h3, h4, h5, h6⟩ := hp
    rcases hq with ⟨⟨v, u', e1, ⟨g, c, hg, hcw, hQ⟩, e3, e4, e5⟩, L, hL1, hL2⟩ | ⟨q, e0, E, ce, L, ⟨x, a', u', e1, e2, ⟨g, c, hg, hcw, hQ⟩, e3, e4, e5⟩, g2, g3, g4, g5, g6, g7⟩
    · obtain ⟨k1, k2, k3⟩ := key h2 h3 e3 e4 e5 hg hcw
      refine Or.inl ⟨⟨v.map (xm_rn f), _, ?_, hQ _ k1, k2, k3, e5.1, fun q q1 q2 => e5.2 q q1 (fun z => q2 (hsub q z))⟩, L, hL1, fun q hq => hsub _ (hL2 q hq)⟩
      rw [e1]
      cases v with
      | none => rfl
      | some v => simp [xm_b0_cv hf]
    · obtain ⟨k1, k2, k3⟩ := key h2 h3 e3 e4 e5 hg hcw
      refine Or.inr ⟨q, e0, E, ce, L, ⟨x, f a', _, e1, ?_, hQ _ k1, k2, k3, e5.1, fun q q1 q2 => e5.2 q q1 (fun z => q2 (hsub q z))⟩, g2, g3, g4, g5, g6, fun z hz => hsub _ (g7 z hz)⟩
      rw [e2, xm_b0_phi hf]
