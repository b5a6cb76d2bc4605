/-! ===== the x machine: a world by roles, a small reading of the code over it, and why it is right ===== -/
set_option maxRecDepth 100000
/-- layout (tag, size), whole numbers, references, longs: by abstract address and place -/
abbrev xW : Type := (Nat → Option (Nat × Nat)) × (Nat → Nat → Int32) × (Nat → Nat → Option Nat) × (Nat → Nat → Int64)
def xm_u2 {α : Type} (f : Nat → Nat → α) (a k : Nat) (v : α) : Nat → Nat → α := fun b j => if b = a ∧ j = k then v else f b j
def xm_ua {α : Type} (f : Nat → Nat → α) (a : Nat) (v : α) : Nat → Nat → α := fun b j => if b = a then v else f b j
def xm_u1 {α : Type} (f : Nat → α) (a : Nat) (v : α) : Nat → α := fun b => if b = a then v else f b
def xm_si (w : xW) (a k : Nat) (v : Int32) : xW := (w.1, xm_u2 w.2.1 a k v, w.2.2.1, w.2.2.2)
def xm_sr (w : xW) (a k : Nat) (v : Option Nat) : xW := (w.1, w.2.1, xm_u2 w.2.2.1 a k v, w.2.2.2)
def xm_sj (w : xW) (a k : Nat) (v : Int64) : xW := (w.1, w.2.1, w.2.2.1, xm_u2 w.2.2.2 a k v)
def xm_nw (w : xW) (a t n : Nat) : xW := (xm_u1 w.1 a (some (t, n)), xm_ua w.2.1 a 0, xm_ua w.2.2.1 a none, xm_ua w.2.2.2 a 0)
def xm_phi (b : Nat → Nat) (a : Nat) : Nat := if a < 1000 then b a else a - 1000
def xm_cv (b : Nat → Nat) (v : Value) : Value := match v with
  | .ref a => .ref (xm_phi b a)
  | v => v
theorem xm_cv_cat (b : Nat → Nat) (v : Value) : (xm_cv b v).category = v.category := by cases v <;> rfl
def xm_cs (b : Nat → Nat) (l : List Value) : List Value := l.map (xm_cv b)
theorem xm_cs_cat (b : Nat → Nat) (l : List Value) : (xm_cs b l).map (fun v => v.category) = l.map (fun v => v.category) := by
  unfold xm_cs
  rw [List.map_map]
  apply List.map_congr_left
  intro v _
  exact xm_cv_cat b v
/-! classes by tags -/
def xm_cl : List vw_C := [(RX1, TX1, 22), (RX2, TX2, 15), (RX5, TX5, 2), (RX6, TX6, 2), (RX7, TX7, 2), (RX8, TX8, 1), (RX9, TX9, 1), (RX10, TX10, 8), (RX11, TX11, 56), (RX13, TX13, 6), (RX14, TX14, 8), (RX15, TX15, 4), (RX16, TX16, 5), (RX17, TX17, 2), (RX18, TX18, 2), (RX19, TX19, 2), (RX20, TX20, 2), (RX21, TX21, 7), (RJ2, TJ2, 3), (RJ8, TJ8, 4), (RJ9, TJ9, 4)]
def xm_ty (t : Nat) : Nat → FieldType := match t with
  | 0 => tyX1
  | 1 => tyX2
  | 2 => tyX5
  | 3 => tyX6
  | 4 => tyX7
  | 5 => tyX8
  | 6 => tyX9
  | 7 => tyX10
  | 8 => tyX11
  | 9 => tyX13
  | 10 => tyX14
  | 11 => tyX15
  | 12 => tyX16
  | 13 => tyX17
  | 14 => tyX18
  | 15 => tyX19
  | 16 => tyX20
  | 17 => tyX21
  | 18 => tyJ2
  | 19 => tyJ8
  | _ => tyJ9
def xm_aty (t : Nat) : FieldType := match t with
  | 100 => .int
  | 101 => .byte
  | 102 => .boolean
  | 103 => .char
  | 104 => .long
  | 110 => .array .int
  | 111 => .object "PuppetHeirs$Troupe"
  | _ => .object "java/lang/Object"
def xm_fk (ty : FieldType) : Nat := match ty with
  | .object _ => 1
  | .array _ => 1
  | .long => 2
  | .float => 3
  | .double => 3
  | _ => 0
def xm_fv (b : Nat → Nat) (ty : FieldType) (i : Int32) (r : Option Nat) (j : Int64) : Value := match xm_fk ty with
  | 0 => .int i
  | 1 => va_rf (r.map (xm_phi b))
  | _ => .long j
/-- from 200 on: what is only read; the tag beneath -/
def xm_bt (t : Nat) : Nat := match Nat.blt t 200 with
  | true => t
  | false => t - 200
theorem xm_bt_lt {t : Nat} (h : t < 200) : xm_bt t = t := by
  unfold xm_bt
  rw [show Nat.blt t 200 = true from Nat.blt_eq.mpr h]
/-- the tag t is of the declared kind c -/
def xm_sub (t c : Nat) : Bool := match c with
  | 20 => t == 20 || t == 220
  | 30 => t == 9 || t == 12 || t == 17
  | 31 => t == 2 || t == 3 || t == 4 || t == 13 || t == 14 || t == 15 || t == 16
  | 32 => t == 10
  | _ => t == c
theorem xm_cls_ok : ∀ t r, xm_cl[t]? = some r → (∀ w ∈ u_ws r.1 r.2.1 r.2.2, w ∈ lw_all) ∧ (∀ k, k < r.2.2 → parseFieldDescriptor (r.2.1 k).2.2.1 = some (xm_ty t k)) ∧ (∀ a, a < r.2.2 → ∀ b, b < r.2.2 → a ≠ b → (r.2.1 a).2.1 ≠ (r.2.1 b).2.1) := by
  intro t r h
  match t, h with
  | 0, h => cases h; exact ⟨in_X1, tyX1_ok, nmX1⟩
  | 1, h => cases h; exact ⟨in_X2, tyX2_ok, nmX2⟩
  | 2, h => cases h; exact ⟨in_X5, tyX5_ok, nmX5⟩
  | 3, h => cases h; exact ⟨in_X6, tyX6_ok, nmX6⟩
  | 4, h => cases h; exact ⟨in_X7, tyX7_ok, nmX7⟩
  | 5, h => cases h; exact ⟨in_X8, tyX8_ok, nmX8⟩
  | 6, h => cases h; exact ⟨in_X9, tyX9_ok, nmX9⟩
  | 7, h => cases h; exact ⟨in_X10, tyX10_ok, nmX10⟩
  | 8, h => cases h; exact ⟨in_X11, tyX11_ok, nmX11⟩
  | 9, h => cases h; exact ⟨in_X13, tyX13_ok, nmX13⟩
  | 10, h => cases h; exact ⟨in_X14, tyX14_ok, nmX14⟩
  | 11, h => cases h; exact ⟨in_X15, tyX15_ok, nmX15⟩
  | 12, h => cases h; exact ⟨in_X16, tyX16_ok, nmX16⟩
  | 13, h => cases h; exact ⟨in_X17, tyX17_ok, nmX17⟩
  | 14, h => cases h; exact ⟨in_X18, tyX18_ok, nmX18⟩
  | 15, h => cases h; exact ⟨in_X19, tyX19_ok, nmX19⟩
  | 16, h => cases h; exact ⟨in_X20, tyX20_ok, nmX20⟩
  | 17, h => cases h; exact ⟨in_X21, tyX21_ok, nmX21⟩
  | 18, h => cases h; exact ⟨in_J2, tyJ2_ok, nmJ2⟩
  | 19, h => cases h; exact ⟨in_J8, tyJ8_ok, nmJ8⟩
  | 20, h => cases h; exact ⟨in_J9, tyJ9_ok, nmJ9⟩
  | t + 21, h => exact absurd h (by simp [xm_cl])
/-! the world in a heap -/
def xm_at (D : va_G) (dA : Nat → ClassId) (b : Nat → Nat) (w : xW) (H : Heap) (a t n : Nat) : Prop :=
  (t < 100 ∧ ∃ r : vw_C, xm_cl[t]? = some r ∧ n = r.2.2 ∧ t_OB (xm_phi b a) (D.1 t) n (D.2 t) H (fun k => xm_fv b (xm_ty t k) (w.2.1 a k) (w.2.2.1 a k) (w.2.2.2 a k))) ∨
  (100 ≤ t ∧ t < 113 ∧ (t < 105 ∨ 110 ≤ t) ∧ H[xm_phi b a]? = some (arrV (dA t) n (fun k => xm_fv b (xm_aty t) (w.2.1 a k) (w.2.2.1 a k) (w.2.2.2 a k))))
def xm_R (D : va_G) (dA : Nat → ClassId) (b : Nat → Nat) (w : xW) (H : Heap) : Prop :=
  (∀ a t n, w.1 a = some (t, n) → xm_at D dA b w H a (xm_bt t) n) ∧ ∀ a a', w.1 a ≠ none → w.1 a' ≠ none → xm_phi b a = xm_phi b a' → a = a'
def xm_tys (dA : Nat → ClassId) : List (ClassId × FieldType) := (List.range 113).map (fun t => (dA t, xm_aty t))
/-- what is known of classes and arrays' classes -/
def xm_K (D : va_G) (dA : Nat → ClassId) (U : State) : Prop := (∀ (c : Nat) (q : vw_C), xm_cl[c]? = some q → u_Kn U q.1 q.2.1 q.2.2 (D.1 c) (D.2 c)) ∧ ∀ t : Nat, 100 ≤ t → t < 113 → (t < 105 ∨ 110 ≤ t) → ArrOfT U (dA t) (xm_aty t) ∧ va_RA U (dA t) (xm_aty t)
theorem xm_K.moved {D : va_G} {dA : Nat → ClassId} {u U : State} (hvm : u.vm.Alike U.vm) (h : xm_K D dA u) : xm_K D dA U := ⟨fun c q hq => u_Kn_moved hvm (h.1 c q hq), fun t h1 h2 h3 => ⟨arrOfT_moved hvm (h.2 t h1 h2 h3).1, (h.2 t h1 h2 h3).2.moved hvm⟩⟩
/-- the words that don't ride in the lists: nest mates' links -/
def xm_isN (w : Cond) : Bool := match w with
  | .fieldLinkNest _ _ _ _ _ _ => true
  | .methodLinkNest _ _ _ _ => true
  | .declares _ => true
  | .castable _ _ => true
  | _ => false
def xm_N (U : State) : Prop := ∀ w ∈ lw_tbl, xm_isN w = true → va_Nw w U
theorem xm_N.warm {s U : State} (hW : s.WarmedH U.vm) (h : xm_N s) : xm_N U := by
  intro w hw hn
  have h1 := h w hw hn
  cases w with
  | fieldLinkNest a i b n d hh => exact va_Nw.warmF hW h1
  | methodLinkNest a i x hh => exact va_Nw.warmM hW h1
  | declares x => exact va_Nw.warmD hW h1
  | castable a b => exact va_Nw.warmC hW h1
  | _ => cases hn
theorem xm_N.same {s U : State} (hv : s.vm = U.vm) (h : xm_N s) : xm_N U := by
  intro w hw hn
  have h1 := h w hw hn
  cases w with
  | fieldLinkNest a i b n d hh => exact va_Nw.same rfl hv h1
  | methodLinkNest a i x hh => exact va_Nw.same rfl hv h1
  | declares x => exact va_Nw.same rfl hv h1
  | castable a b => exact va_Nw.same rfl hv h1
  | _ => cases hn
/-- what else a run keeps: statics, constants -/
abbrev xI : Type := (Nat → Prop) → State → Heap → Prop
def xm_good (Iv : xI) : Prop := (∀ (A : Nat → Prop) (u U : State) (H : Heap), u.WarmedH U.vm → Iv A u H → Iv A U H) ∧ (∀ (A : Nat → Prop) (u U : State) (H : Heap), u.vm = U.vm → Iv A u H → Iv A U H) ∧ (∀ A U H H1, Iv A U H → (∀ q : Nat, q < H.size → ¬ A q → H1[q]? = H[q]?) → Iv A U H1) ∧ (∀ (A B : Nat → Prop) U H, (∀ q, B q → A q) → Iv A U H → Iv B U H)
/-! locals -/
def xm_get : List (Option Value) → Nat → Option Value
  | [], _ => none
  | a :: _, 0 => a
  | _ :: t, i + 1 => xm_get t i
def xm_set : List (Option Value) → Nat → Option Value → List (Option Value)
  | [], _, _ => []
  | _ :: t, 0, v => v :: t
  | a :: t, i + 1, v => a :: xm_set t i v
/-- what lies one place before isn't a long -/
def xm_ok1 : List (Option Value) → Nat → Bool
  | a :: _, 1 => match a with
    | some (.long _) => false
    | some (.double _) => false
    | _ => true
  | _ :: t, i + 2 => xm_ok1 t (i + 1)
  | _, _ => true
def xm_len : List (Option Value) → Nat → Bool
  | [], _ => false
  | _ :: _, 0 => true
  | _ :: t, i + 1 => xm_len t i
theorem xm_get_eq : ∀ (lv : List (Option Value)) (i : Nat) (v : Value), xm_get lv i = some v ↔ lv[i]? = some (some v)
  | [], i, v => by simp [xm_get]
  | a :: t, 0, v => by simp [xm_get]
  | a :: t, i + 1, v => by simp [xm_get, xm_get_eq t i v]
theorem xm_len_lt : ∀ (lv : List (Option Value)) (i : Nat), xm_len lv i = true → i < lv.length
  | [], i, h => by simp [xm_len] at h
  | a :: t, 0, h => by simp
  | a :: t, i + 1, h => by
    have := xm_len_lt t i h
    simp; omega
theorem xm_set_length : ∀ (lv : List (Option Value)) (i : Nat) (v : Option Value), (xm_set lv i v).length = lv.length
  | [], i, v => rfl
  | a :: t, 0, v => rfl
  | a :: t, i + 1, v => by simp [xm_set, xm_set_length t i v]
theorem xm_get_set : ∀ (lv : List (Option Value)) (i j : Nat) (v : Option Value) (x : Value), xm_get (xm_set lv i v) j = some x → (j = i ∧ v = some x) ∨ (j ≠ i ∧ xm_get lv j = some x)
  | [], i, j, v, x, h => by simp [xm_set, xm_get] at h
  | a :: t, 0, 0, v, x, h => by simp [xm_set, xm_get] at h; exact Or.inl ⟨rfl, h⟩
  | a :: t, 0, j + 1, v, x, h => by simp [xm_set, xm_get] at h; exact Or.inr ⟨by omega, h⟩
  | a :: t, i + 1, 0, v, x, h => by simp [xm_set, xm_get] at h; exact Or.inr ⟨by omega, h⟩
  | a :: t, i + 1, j + 1, v, x, h => by
    simp only [xm_set, xm_get] at h
    rcases xm_get_set t i j v x h with ⟨h1, h2⟩ | ⟨h1, h2⟩
    · exact Or.inl ⟨by omega, h2⟩
    · exact Or.inr ⟨by omega, h2⟩
theorem xm_ok1_cat : ∀ (lv : List (Option Value)) (i j : Nat) (v : Value), xm_ok1 lv i = true → j + 1 = i → xm_get lv j = some v → ¬ v.category = 2
  | [], i, j, v, _, _, h => by simp [xm_get] at h
  | a :: t, 0, j, v, _, h1, _ => by omega
  | a :: t, 1, 0, v, ho, _, h => by
    simp only [xm_get] at h
    subst h
    cases v <;> simp_all [xm_ok1, Value.category]
  | a :: t, 1, j + 1, v, _, h1, _ => by omega
  | a :: t, i + 2, 0, v, _, h1, _ => by omega
  | a :: t, i + 2, j + 1, v, ho, h1, h => xm_ok1_cat t (i + 1) j v (by simpa [xm_ok1] using ho) (by omega) (by simpa [xm_get] using h)
def xm_ls (b : Nat → Nat) (ls : Array Slot) (nL : Nat) (lv : List (Option Value)) : Prop :=
  lv.length = nL ∧ ∃ l, lv_has ls nL l ∧ ∀ i v, xm_get lv i = some v → (i, xm_cv b v) ∈ l
theorem xm_ls.at {b : Nat → Nat} {ls : Array Slot} {nL : Nat} {lv : List (Option Value)} (h : xm_ls b ls nL lv) {i : Nat} {v : Value} (hv : xm_get lv i = some v) : ls[i]? = some (.val (xm_cv b v)) := by
  obtain ⟨-, l, h1, h2⟩ := h
  exact h1.2.2 _ (h2 i v hv)
theorem xm_ls.size {b : Nat → Nat} {ls : Array Slot} {nL : Nat} {lv : List (Option Value)} (h : xm_ls b ls nL lv) : ls.size = nL := by
  obtain ⟨-, l, h1, -⟩ := h
  exact h1.1
theorem xm_ls.lt {b : Nat → Nat} {ls : Array Slot} {nL : Nat} {lv : List (Option Value)} (h : xm_ls b ls nL lv) {i : Nat} (hi : xm_len lv i = true) : i < nL := by
  rw [← h.1]; exact xm_len_lt lv i hi
/-- what storing a one-place value leaves -/
theorem xm_ls.put1 {b : Nat → Nat} {nL : Nat} {lv : List (Option Value)} {l : List (Nat × Value)} {i : Nat} {v : Value} (hl : lv.length = nL) (h2 : ∀ i v, xm_get lv i = some v → (i, xm_cv b v) ∈ l) (ok : xm_ok1 lv i = true) {ls' : Array Slot}
    (h' : lv_has ls' nL ((i, xm_cv b v) :: l.filter (fun q => !(q.1 == i) && !(q.1 + 1 == i && q.2.category == 2)))) : xm_ls b ls' nL (xm_set lv i (some v)) := by
  refine ⟨by rw [xm_set_length]; exact hl, _, h', fun j x hx => ?_⟩
  rcases xm_get_set lv i j (some v) x hx with ⟨rfl, e⟩ | ⟨hne, e⟩
  · cases e
    exact List.mem_cons_self
  · refine List.mem_cons_of_mem _ (List.mem_filter.mpr ⟨h2 j x e, ?_⟩)
    have h3 : ¬ (j + 1 = i ∧ x.category = 2) := fun hh => xm_ok1_cat lv i j x ok hh.1 e hh.2
    simp only [xm_cv_cat, Bool.and_eq_true, Bool.not_eq_true', beq_eq_false_iff_ne, ne_eq, hne, not_false_eq_true, true_and, Bool.and_eq_false_iff]
    by_cases h4 : j + 1 = i
    · exact Or.inr (fun h5 => h3 ⟨h4, h5⟩)
    · exact Or.inl h4
theorem xm_ls.put2 {b : Nat → Nat} {nL : Nat} {lv : List (Option Value)} {l : List (Nat × Value)} {i : Nat} {v : Value} (hl : lv.length = nL) (h2 : ∀ i v, xm_get lv i = some v → (i, xm_cv b v) ∈ l) (ok : xm_ok1 lv i = true) {ls' : Array Slot}
    (h' : lv_has ls' nL ((i, xm_cv b v) :: l.filter (fun q => !(q.1 == i) && (!(q.1 == i + 1) && !(q.1 + 1 == i && q.2.category == 2))))) : xm_ls b ls' nL (xm_set (xm_set lv i (some v)) (i + 1) none) := by
  refine ⟨by rw [xm_set_length, xm_set_length]; exact hl, _, h', fun j x hx => ?_⟩
  rcases xm_get_set _ (i + 1) j none x hx with ⟨rfl, e⟩ | ⟨hne1, hx⟩
  · cases e
  rcases xm_get_set lv i j (some v) x hx with ⟨rfl, e⟩ | ⟨hne, e⟩
  · cases e
    exact List.mem_cons_self
  · refine List.mem_cons_of_mem _ (List.mem_filter.mpr ⟨h2 j x e, ?_⟩)
    have h3 : ¬ (j + 1 = i ∧ x.category = 2) := fun hh => xm_ok1_cat lv i j x ok hh.1 e hh.2
    simp only [xm_cv_cat, Bool.and_eq_true, Bool.not_eq_true', beq_eq_false_iff_ne, ne_eq, hne, hne1, not_false_eq_true, true_and, Bool.and_eq_false_iff]
    by_cases h4 : j + 1 = i
    · exact Or.inr (fun h5 => h3 ⟨h4, h5⟩)
    · exact Or.inl h4
/-! the reading of the code -/
abbrev xS : Type := List Value → xW → (Option Value → xW → Prop) → (Nat → Nat → xW → Prop) → Prop
abbrev xE : Type := Instr × Nat × Nat × Nat × Nat
abbrev xL : Type := List (Option Value)
abbrev xX : Type := Nat → xL → List Value → xW → Nat → Nat → Prop
/-- what goes on elsewhere; what a return, a throw owes; the handlers; the calls; the kind of answer -/
abbrev xC : Type := xX × (Option Value → xW → Prop) × (Nat → Nat → xW → Prop) × List (Nat × Nat × Nat × Nat) × List (Nat × Nat × Nat × xS) × Nat
def xm_pop : Nat → List Value → List Value → Option (List Value × List Value)
  | 0, acc, st => some (acc, st)
  | _ + 1, _, [] => none
  | n + 1, acc, v :: st => xm_pop n (v :: acc) st
def xm_ct : List Value → Nat
  | [] => 0
  | v :: t => v.category + xm_ct t
theorem xm_ct_eq : ∀ l : List Value, xm_ct l = (l.map fun v => v.category).sum
  | [] => rfl
  | v :: t => by simp [xm_ct, xm_ct_eq t]
theorem xm_pop_eq : ∀ (n : Nat) (acc st as rest : List Value), xm_pop n acc st = some (as, rest) → ∃ l, st = l.reverse ++ rest ∧ as = l ++ acc ∧ l.length = n
  | 0, acc, st, as, rest, h => by
    simp only [xm_pop, Option.some.injEq, Prod.mk.injEq] at h
    exact ⟨[], by simp [h.2], by simp [h.1], rfl⟩
  | n + 1, acc, [], as, rest, h => by simp [xm_pop] at h
  | n + 1, acc, v :: st, as, rest, h => by
    obtain ⟨l, h1, h2, h3⟩ := xm_pop_eq n (v :: acc) st as rest h
    exact ⟨l ++ [v], by simp [h1], by simp [h2], by simp [h3]⟩
def xm_xc (x : Nat) : Nat := match x with
  | 0 => 0
  | 1 => 1
  | _ => 2
def xm_hnd : List (Nat × Nat × Nat × Nat) → Nat → Nat → Option Nat
  | [], _, _ => none
  | (s, e, c, h) :: t, pc, x => match Nat.ble s pc && Nat.blt pc e && (c == 9 || c == xm_xc x) with
    | true => some h
    | false => xm_hnd t pc x
def xm_i2 (f : Int32 → Int32 → Int32) (st : List Value) (K : List Value → Prop) : Prop := match st with
  | .int y :: .int x :: r => K (.int (f x y) :: r)
  | _ => False
def xm_i2z (f : Int32 → Int32 → Int32) (st : List Value) (K : List Value → Prop) : Prop := match st with
  | .int y :: .int x :: r => ¬ y = 0 ∧ K (.int (f x y) :: r)
  | _ => False
def xm_l2 (f : Int64 → Int64 → Int64) (st : List Value) (K : List Value → Prop) : Prop := match st with
  | .long y :: .long x :: r => K (.long (f x y) :: r)
  | _ => False
def xm_i1 (f : Int32 → Value) (st : List Value) (K : List Value → Prop) : Prop := match st with
  | .int x :: r => K (f x :: r)
  | _ => False
def xm_ldi (lv : xL) (n : Nat) (K : Value → Prop) : Prop := match xm_get lv n with
  | some (.int x) => K (.int x)
  | _ => False
def xm_ldl (lv : xL) (n : Nat) (K : Value → Prop) : Prop := match xm_get lv n with
  | some (.long x) => K (.long x)
  | _ => False
def xm_lda (lv : xL) (n : Nat) (K : Value → Prop) : Prop := match xm_get lv n with
  | some (.ref x) => K (.ref x)
  | some .null => K .null
  | _ => False
def xm_sti (lv : xL) (n : Nat) (st : List Value) (K : xL → List Value → Prop) : Prop := match st with
  | .int x :: r => match xm_ok1 lv n && xm_len lv n with
    | true => K (xm_set lv n (some (.int x))) r
    | false => False
  | _ => False
def xm_stl (lv : xL) (n : Nat) (st : List Value) (K : xL → List Value → Prop) : Prop := match st with
  | .long x :: r => match xm_ok1 lv n && xm_len lv (n + 1) with
    | true => K (xm_set (xm_set lv n (some (.long x))) (n + 1) none) r
    | false => False
  | _ => False
def xm_sta (lv : xL) (n : Nat) (st : List Value) (K : xL → List Value → Prop) : Prop := match st with
  | .ref x :: r => match xm_ok1 lv n && xm_len lv n with
    | true => K (xm_set lv n (some (.ref x))) r
    | false => False
  | .null :: r => match xm_ok1 lv n && xm_len lv n with
    | true => K (xm_set lv n (some .null)) r
    | false => False
  | _ => False
def xm_inc (lv : xL) (n : Nat) (k : Int) (K : xL → Prop) : Prop := match xm_get lv n with
  | some (.int x) => match xm_ok1 lv n && xm_len lv n with
    | true => K (xm_set lv n (some (.int (x + Int32.ofInt k))))
    | false => False
  | _ => False
/-- the cell's layout, of a tag that p takes -/
def xm_lay (w : xW) (a : Nat) (p : Nat → Bool) (K : Nat → Nat → Prop) : Prop := match w.1 a with
  | some (t, n) => match p t with
    | true => K t n
    | false => False
  | none => False
def xm_fld (w : xW) (a k d : Nat) : Value := match d with
  | 0 => .int (w.2.1 a k)
  | 1 => va_rf (w.2.2.1 a k)
  | _ => .long (w.2.2.2 a k)
/-- written places: what is not only read -/
def xm_wr (t : Nat) : Bool := Nat.blt t 200
def xm_gf (w : xW) (c k d : Nat) (st : List Value) (K : List Value → Prop) : Prop := match st with
  | .ref a :: r => xm_lay w a (fun t => xm_sub t c) (fun _ _ => K (xm_fld w a k d :: r))
  | _ => False
def xm_pf (w : xW) (c k d : Nat) (st : List Value) (K : xW → List Value → Prop) : Prop := match st with
  | v :: .ref a :: r => xm_lay w a (fun t => xm_sub t c && xm_wr t) (fun _ _ => match d, v with
    | 0, .int x => K (xm_si w a k x) r
    | 1, .ref x => K (xm_sr w a k (some x)) r
    | 1, .null => K (xm_sr w a k none) r
    | 2, .long x => K (xm_sj w a k x) r
    | 4, .int x => (x = 0 ∨ x = 1) ∧ K (xm_si w a k x) r
    | _, _ => False)
  | _ => False
def xm_ald (p : Nat → Bool) (d : Nat) (w : xW) (st : List Value) (K : List Value → Prop) : Prop := match st with
  | .int i :: .ref a :: r => xm_lay w a p (fun _ n => vp_in i n ∧ K (xm_fld w a i.toNatClampNeg d :: r))
  | _ => False
def xm_ast (p : Nat → Bool) (f : Nat → Int32 → Int32) (w : xW) (st : List Value) (K : xW → List Value → Prop) : Prop := match st with
  | .int x :: .int i :: .ref a :: r => xm_lay w a p (fun t n => vp_in i n ∧ K (xm_si w a i.toNatClampNeg (f t x)) r)
  | _ => False
def xm_lst (w : xW) (st : List Value) (K : xW → List Value → Prop) : Prop := match st with
  | .long x :: .int i :: .ref a :: r => xm_lay w a (fun t => t == 104) (fun _ n => vp_in i n ∧ K (xm_sj w a i.toNatClampNeg x) r)
  | _ => False
def xm_aln (w : xW) (st : List Value) (K : List Value → Prop) : Prop := match st with
  | .ref a :: r => xm_lay w a (fun t => Nat.ble 100 (xm_bt t)) (fun _ n => K (.int (Int32.ofNat n) :: r))
  | _ => False
def xm_nwa (w : xW) (c : Nat) (st : List Value) (cb sb : Nat) (K : xW → List Value → Nat → Nat → Prop) : Prop := match st with
  | .int n :: r => ¬ n < 0 ∧ n.toNatClampNeg ≤ 60000000 ∧ 1 ≤ cb ∧ n.toNatClampNeg ≤ sb ∧ ∀ a, w.1 a = none → 1000 ≤ a → K (xm_nw w a c n.toNatClampNeg) (.ref a :: r) (cb - 1) (sb - n.toNatClampNeg)
  | _ => False
def xm_nwo (w : xW) (c n : Nat) (st : List Value) (cb sb : Nat) (K : xW → List Value → Nat → Nat → Prop) : Prop :=
  1 ≤ cb ∧ n ≤ sb ∧ ∀ a, w.1 a = none → 1000 ≤ a → K (xm_nw w a c n) (.ref a :: st) (cb - 1) (sb - n)
def xm_b1 (p : Int32 → Prop) (st : List Value) (T F : List Value → Prop) : Prop := match st with
  | .int x :: r => (p x → T r) ∧ (¬ p x → F r)
  | _ => False
def xm_b2 (p : Int32 → Int32 → Prop) (st : List Value) (T F : List Value → Prop) : Prop := match st with
  | .int y :: .int x :: r => (p x y → T r) ∧ (¬ p x y → F r)
  | _ => False
def xm_bn (st : List Value) (N R : List Value → Prop) : Prop := match st with
  | .null :: r => N r
  | .ref _ :: r => R r
  | _ => False
def xm_tgt (pc : Nat) (off : Int) : Nat := ((pc : Int) + off).toNat
def xm_tsw (x : Int32) (pc : Nat) (K : Nat → Prop) : List Int → Int → Prop
  | [], _ => True
  | off :: r, v => (x = Int32.ofInt v → K (xm_tgt pc off)) ∧ xm_tsw x pc K r (v + 1)
def xm_lsw (x : Int32) (pc : Nat) (K : Nat → Prop) (d : Int) : List (Int × Int) → Prop
  | [] => K (xm_tgt pc d)
  | (v, off) :: r => (x = Int32.ofInt v → K (xm_tgt pc off)) ∧ (¬ x = Int32.ofInt v → xm_lsw x pc K d r)
def xm_ret1 (rt : Nat) (x : Int32) (P : Prop) : Prop := match rt with
  | 0 => P
  | 1 => (x = 0 ∨ x = 1) ∧ P
  | _ => False
def xm_ush (x y : Int32) : Int32 := (x.toUInt32 >>> (y.toUInt32 &&& Int32.toUInt32 31)).toInt32
/-- two references that are laid out -/
def xm_bq (w : xW) (st : List Value) (T F : List Value → Prop) : Prop := match st with
  | .ref y :: .ref x :: r => w.1 x ≠ none ∧ w.1 y ≠ none ∧ (x = y → T r) ∧ (¬ x = y → F r)
  | _ => False
def xm_thr (E : xC) (pc : Nat) (lv : xL) (w : xW) (cb sb x q : Nat) : Prop := match xm_hnd E.2.2.2.1 pc x with
  | some h => E.1 h lv [.ref q] w cb sb
  | none => E.2.2.1 x q w
def xm_vi (E : xC) (V : xX) (i : Instr) (nx c k d pc : Nat) (lv : xL) (st : List Value) (w : xW) (cb sb : Nat) : Prop := match i with
  | .iconst n => V nx lv (.int (Int32.ofInt n) :: st) w cb sb
  | .bipush n => V nx lv (.int (Int32.ofInt n) :: st) w cb sb
  | .sipush n => V nx lv (.int (Int32.ofInt n) :: st) w cb sb
  | .ldc _ => V nx lv (.int (Int32.ofNat c) :: st) w cb sb
  | .ldc_w _ => V nx lv (.int (Int32.ofNat c) :: st) w cb sb
  | .ldc2_w _ => V nx lv (.long (Int64.ofNat c) :: st) w cb sb
  | .lconst n => V nx lv (.long (Int64.ofNat (n : Nat)) :: st) w cb sb
  | .aconst_null => V nx lv (.null :: st) w cb sb
  | .iload n => xm_ldi lv n (fun v => V nx lv (v :: st) w cb sb)
  | .iload_n n => xm_ldi lv n (fun v => V nx lv (v :: st) w cb sb)
  | .lload n => xm_ldl lv n (fun v => V nx lv (v :: st) w cb sb)
  | .lload_n n => xm_ldl lv n (fun v => V nx lv (v :: st) w cb sb)
  | .aload n => xm_lda lv n (fun v => V nx lv (v :: st) w cb sb)
  | .aload_n n => xm_lda lv n (fun v => V nx lv (v :: st) w cb sb)
  | .istore n => xm_sti lv n st (fun lv st => V nx lv st w cb sb)
  | .istore_n n => xm_sti lv n st (fun lv st => V nx lv st w cb sb)
  | .lstore n => xm_stl lv n st (fun lv st => V nx lv st w cb sb)
  | .lstore_n n => xm_stl lv n st (fun lv st => V nx lv st w cb sb)
  | .astore n => xm_sta lv n st (fun lv st => V nx lv st w cb sb)
  | .astore_n n => xm_sta lv n st (fun lv st => V nx lv st w cb sb)
  | .iinc n z => xm_inc lv n z (fun lv => V nx lv st w cb sb)
  | .iadd => xm_i2 (fun x y => x + y) st (fun st => V nx lv st w cb sb)
  | .isub => xm_i2 (fun x y => x - y) st (fun st => V nx lv st w cb sb)
  | .imul => xm_i2 (fun x y => x * y) st (fun st => V nx lv st w cb sb)
  | .iand => xm_i2 (fun x y => x &&& y) st (fun st => V nx lv st w cb sb)
  | .ior => xm_i2 (fun x y => x ||| y) st (fun st => V nx lv st w cb sb)
  | .ixor => xm_i2 (fun x y => x ^^^ y) st (fun st => V nx lv st w cb sb)
  | .ishl => xm_i2 (fun x y => x <<< (y &&& 31)) st (fun st => V nx lv st w cb sb)
  | .ishr => xm_i2 (fun x y => x >>> (y &&& 31)) st (fun st => V nx lv st w cb sb)
  | .iushr => xm_i2 xm_ush st (fun st => V nx lv st w cb sb)
  | .idiv => xm_i2z (fun x y => x / y) st (fun st => V nx lv st w cb sb)
  | .irem => xm_i2z (fun x y => x - x / y * y) st (fun st => V nx lv st w cb sb)
  | .ineg => xm_i1 (fun x => .int (-x)) st (fun st => V nx lv st w cb sb)
  | .i2l => xm_i1 (fun x => .long x.toInt64) st (fun st => V nx lv st w cb sb)
  | .i2b => xm_i1 (fun x => .int x.toInt8.toInt32) st (fun st => V nx lv st w cb sb)
  | .i2c => xm_i1 (fun x => .int (x.toUInt32 % 65536).toInt32) st (fun st => V nx lv st w cb sb)
  | .ladd => xm_l2 (fun x y => x + y) st (fun st => V nx lv st w cb sb)
  | .lsub => xm_l2 (fun x y => x - y) st (fun st => V nx lv st w cb sb)
  | .lmul => xm_l2 (fun x y => x * y) st (fun st => V nx lv st w cb sb)
  | .lcmp => match st with
    | .long y :: .long x :: r => V nx lv (.int (lg_cmp x y) :: r) w cb sb
    | _ => False
  | .dup => match st with
    | v :: r => v.category = 1 ∧ V nx lv (v :: v :: r) w cb sb
    | _ => False
  | .dup2 => match st with
    | v :: u :: r => v.category = 1 ∧ u.category = 1 ∧ V nx lv (v :: u :: v :: u :: r) w cb sb
    | _ => False
  | .dup_x1 => match st with
    | v :: u :: r => v.category = 1 ∧ u.category = 1 ∧ V nx lv (v :: u :: v :: r) w cb sb
    | _ => False
  | .pop => match st with
    | v :: r => v.category = 1 ∧ V nx lv r w cb sb
    | _ => False
  | .getfield _ => xm_gf w c k d st (fun st => V nx lv st w cb sb)
  | .putfield _ => xm_pf w c k d st (fun w st => V nx lv st w cb sb)
  | .iaload => xm_ald (fun t => xm_bt t == 100) 0 w st (fun st => V nx lv st w cb sb)
  | .baload => xm_ald (fun t => xm_bt t == 101 || t == 102) 0 w st (fun st => V nx lv st w cb sb)
  | .aaload => xm_ald (fun t => Nat.ble 110 t && Nat.blt t 113) 1 w st (fun st => V nx lv st w cb sb)
  | .laload => xm_ald (fun t => t == 104) 2 w st (fun st => V nx lv st w cb sb)
  | .iastore => xm_ast (fun t => t == 100) (fun _ x => x) w st (fun w st => V nx lv st w cb sb)
  | .bastore => xm_ast (fun t => t == 101 || t == 102) (fun t x => vp_nar (xm_aty t) x) w st (fun w st => V nx lv st w cb sb)
  | .lastore => xm_lst w st (fun w st => V nx lv st w cb sb)
  | .arraylength => xm_aln w st (fun st => V nx lv st w cb sb)
  | .newarray _ => xm_nwa w c st cb sb (fun w st cb sb => V nx lv st w cb sb)
  | .new _ => xm_nwo w c k st cb sb (fun w st cb sb => V nx lv st w cb sb)
  | .goto _ => E.1 k lv st w cb sb
  | .ifCond .eq _ => xm_b1 (fun x => x = 0) st (fun st => E.1 k lv st w cb sb) (fun st => V nx lv st w cb sb)
  | .ifCond .ne _ => xm_b1 (fun x => ¬ x = 0) st (fun st => E.1 k lv st w cb sb) (fun st => V nx lv st w cb sb)
  | .ifCond .lt _ => xm_b1 (fun x => x < 0) st (fun st => E.1 k lv st w cb sb) (fun st => V nx lv st w cb sb)
  | .ifCond .ge _ => xm_b1 (fun x => 0 ≤ x) st (fun st => E.1 k lv st w cb sb) (fun st => V nx lv st w cb sb)
  | .ifCond .gt _ => xm_b1 (fun x => 0 < x) st (fun st => E.1 k lv st w cb sb) (fun st => V nx lv st w cb sb)
  | .ifCond .le _ => xm_b1 (fun x => x ≤ 0) st (fun st => E.1 k lv st w cb sb) (fun st => V nx lv st w cb sb)
  | .if_icmp .eq _ => xm_b2 (fun x y => x = y) st (fun st => E.1 k lv st w cb sb) (fun st => V nx lv st w cb sb)
  | .if_icmp .ne _ => xm_b2 (fun x y => ¬ x = y) st (fun st => E.1 k lv st w cb sb) (fun st => V nx lv st w cb sb)
  | .if_icmp .lt _ => xm_b2 (fun x y => x < y) st (fun st => E.1 k lv st w cb sb) (fun st => V nx lv st w cb sb)
  | .if_icmp .ge _ => xm_b2 (fun x y => y ≤ x) st (fun st => E.1 k lv st w cb sb) (fun st => V nx lv st w cb sb)
  | .if_icmp .gt _ => xm_b2 (fun x y => y < x) st (fun st => E.1 k lv st w cb sb) (fun st => V nx lv st w cb sb)
  | .if_icmp .le _ => xm_b2 (fun x y => x ≤ y) st (fun st => E.1 k lv st w cb sb) (fun st => V nx lv st w cb sb)
  | .if_acmp .eq _ => xm_bq w st (fun st => E.1 k lv st w cb sb) (fun st => V nx lv st w cb sb)
  | .if_acmp .ne _ => xm_bq w st (fun st => V nx lv st w cb sb) (fun st => E.1 k lv st w cb sb)
  | .athrow => match st with
    | .ref a :: _ => xm_lay w a (fun t => t == 10) (fun _ _ => xm_thr E pc lv w cb sb 2 a)
    | _ => False
  | .ifnull _ => xm_bn st (fun st => E.1 k lv st w cb sb) (fun st => V nx lv st w cb sb)
  | .ifnonnull _ => xm_bn st (fun st => V nx lv st w cb sb) (fun st => E.1 k lv st w cb sb)
  | .tableswitch df lo hi offs => match st with
    | .int x :: r => xm_tsw x pc (fun z => E.1 z lv r w cb sb) offs.toList lo ∧ ((x.toInt < lo ∨ hi < x.toInt) → E.1 (xm_tgt pc df) lv r w cb sb)
    | _ => False
  | .lookupswitch df ps => match st with
    | .int x :: r => xm_lsw x pc (fun z => E.1 z lv r w cb sb) df ps.toList
    | _ => False
  | .ireturn => match st with
    | .int x :: [] => xm_ret1 E.2.2.2.2.2 x (E.2.1 (some (.int x)) w)
    | _ => False
  | .lreturn => match st with
    | .long x :: [] => E.2.2.2.2.2 = 4 ∧ E.2.1 (some (.long x)) w
    | _ => False
  | .areturn => match st with
    | .ref x :: [] => E.2.2.2.2.2 = 3 ∧ E.2.1 (some (.ref x)) w
    | .null :: [] => E.2.2.2.2.2 = 3 ∧ E.2.1 (some .null) w
    | _ => False
  | .return_ => match st with
    | [] => E.2.2.2.2.2 = 2 ∧ E.2.1 none w
    | _ => False
  | _ => False
def xm_psh (v : Option Value) (rest : List Value) : List Value := match v with
  | some x => x :: rest
  | none => rest
def xm_vcl (E : xC) (V : xX) (nx k pc : Nat) (lv : xL) (st : List Value) (w : xW) (cb sb : Nat) : Prop := match E.2.2.2.2.1[k]? with
  | some (n, mc, ms, S) => match xm_pop n [] st with
    | some (as, rest) => mc ≤ cb ∧ ms ≤ sb ∧ xm_ct rest ≤ 10 ∧ S as w
        (fun v w' => V nx lv (xm_psh v rest) w' (cb - mc) (sb - ms))
        (fun e q w' => match xm_hnd E.2.2.2.1 pc e with
          | some h => E.1 h lv [.ref q] w' (cb - mc) (sb - ms)
          | none => E.2.2.1 e q w')
    | none => False
  | none => False
def xm_vc (E : xC) : List xE → xX
  | [], pc, lv, st, w, cb, sb => E.1 pc lv st w cb sb
  | (i, nx, c, k, d) :: t, pc, lv, st, w, cb, sb => match d with
    | 9 => xm_vcl E (xm_vc E t) nx k pc lv st w cb sb
    | _ => xm_vi E (xm_vc E t) i nx c k d pc lv st w cb sb
/-! what the table of a method's code says -/
def xm_xn (x : Nat) : String := match x with
  | 0 => "java/lang/IllegalArgumentException"
  | 1 => "java/util/NoSuchElementException"
  | _ => "PuppetHeirs$Wrong"
def xm_lk (own : String) (idx : Nat) (ref name desc : String) : Prop := (Cond.fieldLink own idx ref name desc ∈ lw_all) ∨ ∃ host, Cond.fieldLinkNest own idx ref name desc host ∈ lw_tbl
def xm_fg (own : String) (idx c k d : Nat) : Prop := ∃ ref name desc, xm_lk own idx ref name desc ∧
  ∀ t, xm_sub t c = true → ∃ r, xm_cl[xm_bt t]? = some r ∧ k < r.2.2 ∧ (r.2.1 k).2.1 = name ∧ (r.2.1 k).2.2.1 = desc ∧ (ref = (r.2.1 k).1 ∨ Cond.sameField ref (r.2.1 k).1 name desc ∈ lw_all) ∧ xm_fk (xm_ty (xm_bt t) k) = d
def xm_pfok (t k d : Nat) : Prop := (d = 0 ∧ xm_ty t k = .int) ∨ (d = 1 ∧ ((∃ C, xm_ty t k = .object C) ∨ ∃ C, xm_ty t k = .array C)) ∨ (d = 2 ∧ xm_ty t k = .long) ∨ (d = 4 ∧ (xm_ty t k = .byte ∨ xm_ty t k = .boolean))
def xm_d4 (d : Nat) : Nat := match d with
  | 4 => 0
  | d => d
def xm_fp (own : String) (init : Bool) (idx c k d : Nat) : Prop := xm_fg own idx c k (xm_d4 d) ∧ ∀ t, xm_sub t c = true → t < 200 → ∀ r, xm_cl[t]? = some r →
  xm_pfok t k d ∧ ((r.2.1 k).2.2.2 = false ∨ ((r.2.1 k).2.2.2 = true ∧ init = true ∧ (r.2.1 k).1 = own ∧ ∃ ref, Cond.fieldLink own idx ref (r.2.1 k).2.1 (r.2.1 k).2.2.1 ∈ lw_all ∧ ref = (r.2.1 k).1))
section XM1
variable (p : Program) (l : Launch) (e : Env) (R : Room) (s : State) (m : MethodId) (args : Array Value) (below : List Frame) (meth : Method) (c : Code) (Qf : State → Prop) (D : va_G) (dA : Nat → ClassId) (b : Nat → Nat) (A : Nat → Prop) (nL mc ms : Nat)
def xm_Cx (Iv : xI) (own : String) (cc : ByteArray) : Prop :=
  p.tables.exec = Jvm.exec ∧ c.code = cc ∧ c.maxLocals = nL ∧ s.vm.findClass own = some m.cls ∧ (∀ w ∈ lw_all, w.before args s = true) ∧ xm_K D dA s ∧ xm_N s ∧ Iv A s s.heap ∧ (∀ q : Nat, s.heap.size ≤ q → A q) ∧ l.stackTraces = false ∧ meth.locks = false
def xm_dom (w : xW) : Prop := ∀ a t n, w.1 a = some (t, n) → (t < 200 ∧ A (xm_phi b a)) ∨ (200 ≤ t ∧ 1000 ≤ a)
def xm_J (H0 : Heap) (w : xW) (H : Heap) (locs : List Loc) : Prop := xm_R D dA b w H ∧ xm_dom b A w ∧ va_S A H0 H locs
def xm_Xs : xX := fun pc lv st w cb sb => ∀ (H : Heap) (locs : List Loc) (cells slots : Nat) (ls : Array Slot), xm_J D dA b A s.heap w H locs → xm_ls b ls nL lv → cells + cb ≤ mc → slots + sb ≤ ms → W p l e R s m args below meth c H locs cells slots Qf (F0 m pc ls (xm_cs b st))
def xm_rk (rt : Nat) (i : Instr) (v : Option Value) : Prop := (i = .ireturn ∧ ∃ x, v = some (.int x) ∧ (rt = 0 ∨ (rt = 1 ∧ (x = 0 ∨ x = 1)))) ∨ (i = .lreturn ∧ rt = 4 ∧ ∃ x, v = some (.long x)) ∨ (i = .areturn ∧ rt = 3 ∧ (v = some .null ∨ ∃ x, v = some (.ref x))) ∨ (i = .return_ ∧ rt = 2 ∧ v = none)
def xm_RetOK (cc : ByteArray) (rt : Nat) (Q : Option Value → xW → Prop) : Prop := ∀ (i : Instr) (v : Option Value) (pc : Nat) (w : xW) (H : Heap) (locs : List Loc) (cells slots : Nat) (ls : Array Slot), decode cc pc = .ok (i, 1) → xm_rk rt i v → Q v w → xm_J D dA b A s.heap w H locs → cells ≤ mc → slots ≤ ms → W p l e R s m args below meth c H locs cells slots Qf (F0 m pc ls (xm_cs b v.toList))
def xm_ExcOK (hs : List (Nat × Nat × Nat × Nat)) (QX : Nat → Nat → xW → Prop) : Prop := ∀ (pc x q : Nat) (w : xW) (H : Heap) (locs : List Loc) (cells slots : Nat) (ls : Array Slot) (rest : List Value) (ce : Cell), xm_J D dA b A s.heap w H locs → H[xm_phi b q]? = some ce → ce.vm = .none → s.vm.findClass (xm_xn x) = some ce.cls →
  (xm_hnd hs pc x = none → QX x q w → cells ≤ mc → slots ≤ ms → vx_W p l e R s m args below meth c H locs cells slots Qf (F0 m pc ls rest) (xm_phi b q)) ∧
  ∀ h, xm_hnd hs pc x = some h → W p l e R s m args below meth c H locs cells slots Qf (F0 m h ls [.ref (xm_phi b q)]) → vx_W p l e R s m args below meth c H locs cells slots Qf (F0 m pc ls rest) (xm_phi b q)
end XM1
/-- an instruction that is taken as a call: of n values, with the contract S -/
def xm_CallOK (Iv : xI) (own : String) (cc : ByteArray) (fr : Nat) (pc nx n mc ms : Nat) (S : xS) : Prop :=
  ∀ (p : Program) (l : Launch) (e : Env) (R : Room) (s : State) (m : MethodId) (args : Array Value) (below : List Frame) (meth : Method) (c : Code) (Qf : State → Prop) (D : va_G) (dA : Nat → ClassId) (b : Nat → Nat) (A : Nat → Prop) (nL : Nat),
    xm_Cx p l s m args meth c D dA A nL Iv own cc → fr ≤ R.frames → 64 * fr ≤ R.locals →
    ∀ (as rest : List Value) (w : xW) (K : Option Value → xW → Prop) (KX : Nat → Nat → xW → Prop) (H : Heap) (locs : List Loc) (cells slots : Nat) (ls : Array Slot),
      as.length = n → xm_ct rest ≤ 10 → S as w K KX → xm_J D dA b A s.heap w H locs → ls.size = nL → cells + mc ≤ R.cells → slots + ms ≤ R.slots →
      (∀ (v : Option Value) (w' : xW) (H' : Heap) (locs' : List Loc), K v w' → xm_J D dA b A s.heap w' H' locs' → W p l e R s m args below meth c H' locs' (cells + mc) (slots + ms) Qf (F0 m nx ls (xm_cs b (v.toList ++ rest)))) →
      (∀ (x q : Nat) (w' : xW) (H' : Heap) (locs' : List Loc) (ce : Cell), KX x q w' → xm_J D dA b A s.heap w' H' locs' → H'[xm_phi b q]? = some ce → ce.vm = .none → s.vm.findClass (xm_xn x) = some ce.cls → vx_W p l e R s m args below meth c H' locs' (cells + mc) (slots + ms) Qf (F0 m pc ls (xm_cs b rest)) (xm_phi b q)) →
      W p l e R s m args below meth c H locs cells slots Qf (F0 m pc ls (xm_cs b (as.reverse ++ rest)))
def xm_ln (i : Instr) : Nat := match i with
  | .bipush _ => 2
  | .ldc _ => 2
  | .iload _ => 2
  | .lload _ => 2
  | .aload _ => 2
  | .istore _ => 2
  | .lstore _ => 2
  | .astore _ => 2
  | .newarray _ => 2
  | .sipush _ => 3
  | .ldc_w _ => 3
  | .ldc2_w _ => 3
  | .iinc _ _ => 3
  | .getfield _ => 3
  | .putfield _ => 3
  | .new _ => 3
  | .goto _ => 3
  | .ifCond _ _ => 3
  | .if_icmp _ _ => 3
  | .ifnull _ => 3
  | .ifnonnull _ => 3
  | .if_acmp _ _ => 3
  | _ => 1
def xm_oki (own : String) (init : Bool) (pc : Nat) (i : Instr) (c k d : Nat) : Prop := match i with
  | .bipush n => (Int8.ofInt n).toInt32 = Int32.ofInt n
  | .sipush n => (Int16.ofInt n).toInt32 = Int32.ofInt n
  | .ldc idx => Cond.constant own idx (Int32.ofNat c) ∈ lw_all
  | .ldc_w idx => Cond.constant own idx (Int32.ofNat c) ∈ lw_all
  | .ldc2_w idx => Cond.constantLong own idx (Int64.ofNat c) ∈ lw_all
  | .getfield idx => xm_fg own idx c k d
  | .putfield idx => xm_fp own init idx c k d
  | .goto off => (pc : Int) + off = (k : Int)
  | .ifCond _ off => (pc : Int) + off = (k : Int)
  | .if_icmp _ off => (pc : Int) + off = (k : Int)
  | .ifnull off => (pc : Int) + off = (k : Int)
  | .ifnonnull off => (pc : Int) + off = (k : Int)
  | .if_acmp _ off => (pc : Int) + off = (k : Int)
  | .newarray at' => Cond.arrayClass (newarray.typeOf at') ∈ lw_all ∧ newarray.typeOf at' = xm_aty c ∧ 100 ≤ c ∧ c < 105
  | .new idx => ∃ C T, xm_cl[c]? = some (C, T, k) ∧ Cond.classLink own idx C ∈ lw_all ∧ Cond.instantiable C k ∈ lw_all ∧ Cond.initialized C ∈ lw_all
  | .tableswitch df lo hi offs => (∀ o ∈ df :: offs.toList, 0 ≤ (pc : Int) + o) ∧ (offs.size : Int) = hi - lo + 1
  | .lookupswitch df ps => (∀ o ∈ df :: ps.toList.map (fun q => q.2), 0 ≤ (pc : Int) + o) ∧ (∀ q ∈ ps.toList, -2 ^ 31 ≤ q.1 ∧ q.1 < 2 ^ 31) ∧ (ps.toList.zip (ps.toList.drop 1)).all (fun (a, next) => a.1 < next.1) = true
  | _ => True
def xm_isw (i : Instr) : Bool := match i with
  | .tableswitch _ _ _ _ => true
  | .lookupswitch _ _ => true
  | _ => false
def xm_okb (Iv : xI) (own : String) (cc : ByteArray) (init : Bool) (fr : Nat) (calls : List (Nat × Nat × Nat × xS)) : List xE → Nat → Prop
  | [], _ => True
  | (i, nx, c, k, d) :: t, pc => (match d with
    | 9 => ∀ n mc ms S, calls[k]? = some (n, mc, ms, S) → xm_CallOK Iv own cc fr pc nx n mc ms S
    | _ => (∃ len, decode cc pc = .ok (i, len) ∧ (xm_isw i = false → len = xm_ln i ∧ nx = pc + xm_ln i)) ∧ xm_oki own init pc i c k d) ∧ xm_okb Iv own cc init fr calls t nx
