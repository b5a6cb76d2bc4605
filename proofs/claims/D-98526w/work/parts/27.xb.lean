/-! ===== blocks by their places ===== -/
def xm_mem : List Nat → Nat → Bool
  | [], _ => false
  | a :: t, p => match Nat.beq a p with
    | true => true
    | false => xm_mem t p
def xm_sel (cuts : List Nat) : List (Nat × List xE) → Nat → (List xE → Prop) → Prop
  | [], _, _ => False
  | (p, b) :: t, pc, K => match Nat.beq p pc with
    | true => match xm_mem cuts pc with
      | true => False
      | false => K b
    | false => xm_sel cuts t pc K
theorem xm_sel_in {cuts : List Nat} {pc : Nat} {K : List xE → Prop} : ∀ {blks : List (Nat × List xE)}, xm_sel cuts blks pc K → ∃ b, (pc, b) ∈ blks ∧ K b
  | [], h => h.elim
  | (p, b) :: t, h => by
    unfold xm_sel at h
    split at h
    · rename_i hp
      have : p = pc := Nat.eq_of_beq_eq_true hp
      subst this
      split at h
      · exact h.elim
      · exact ⟨b, List.mem_cons_self, h⟩
    · obtain ⟨b', h1, h2⟩ := xm_sel_in h
      exact ⟨b', List.mem_cons_of_mem _ h1, h2⟩
/-- the walk's step: from a block's place on, but at the cuts -/
theorem xm_go {X : xX} {E : xC} {blks : List (Nat × List xE)} (cuts : List Nat) (hX : ∀ q ∈ blks, ∀ (lv : xL) (st : List Value) (w : xW) (cb sb : Nat), xm_vc E q.2 q.1 lv st w cb sb → X q.1 lv st w cb sb) :
    ∀ (pc : Nat) (lv : xL) (st : List Value) (w : xW) (cb sb : Nat), xm_sel cuts blks pc (fun b => xm_vc E b pc lv st w cb sb) → X pc lv st w cb sb := by
  intro pc lv st w cb sb h
  obtain ⟨b, h1, h2⟩ := xm_sel_in h
  exact hX _ h1 _ _ _ _ _ h2
theorem xi_lit : Int32.ofInt (-1) = -1 ∧ Int32.ofInt 0 = 0 ∧ Int32.ofInt 1 = 1 ∧ Int32.ofInt 2 = 2 ∧ Int32.ofInt 3 = 3 ∧ Int32.ofInt 4 = 4 ∧ Int32.ofInt 5 = 5 := by decide +kernel
