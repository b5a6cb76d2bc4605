/-! ===== bits: rows of BITS.to-paste (its first family), then rows of our own ===== -/
set_option maxRecDepth 100000
def bt (x : Int32) (i : Nat) : Bool := x.toBitVec.getLsbD i
theorem b_ext {x y : Int32} (h : ∀ i, i < 32 → bt x i = bt y i) : x = y := Int32.toBitVec_inj.mp (BitVec.eq_of_getLsbD_eq (fun i hi => h i hi))
theorem b_or (x y : Int32) (i : Nat) : bt (x ||| y) i = (bt x i || bt y i) := by unfold bt; rw [Int32.toBitVec_or, BitVec.getLsbD_or]
theorem b_and (x y : Int32) (i : Nat) : bt (x &&& y) i = (bt x i && bt y i) := by unfold bt; rw [Int32.toBitVec_and, BitVec.getLsbD_and]
theorem b_xor (x y : Int32) (i : Nat) : bt (x ^^^ y) i = (bt x i ^^ bt y i) := by unfold bt; rw [Int32.toBitVec_xor, BitVec.getLsbD_xor]
theorem b_big {x : Int32} {i : Nat} (h : 32 ≤ i) : bt x i = false := BitVec.getLsbD_of_ge _ _ h
theorem b_255 (i : Nat) : bt 255 i = decide (i < 8) := by
  rcases Nat.lt_or_ge i 32 with h | h
  · exact (by decide +kernel : ∀ i, i < 32 → bt 255 i = decide (i < 8)) i h
  · rw [b_big h, decide_eq_false (by omega)]
theorem b_65535 (i : Nat) : bt 65535 i = decide (i < 16) := by
  rcases Nat.lt_or_ge i 32 with h | h
  · exact (by decide +kernel : ∀ i, i < 32 → bt 65535 i = decide (i < 16)) i h
  · rw [b_big h, decide_eq_false (by omega)]
theorem b_m1 : ∀ i, i < 32 → bt (-1) i = true := by decide +kernel
theorem b_0 (i : Nat) : bt 0 i = false := BitVec.getLsbD_zero
theorem s_l : ∀ n, n < 32 → ((nI n &&& 31).toBitVec.smod 32).toNat = n := by decide +kernel
theorem s_u : ∀ n, n < 32 → (((nI n).toUInt32 &&& Int32.toUInt32 31).toBitVec % 32).toNat = n := by decide +kernel
theorem b_shl (n : Nat) (hn : n < 32) (x : Int32) {i : Nat} (hi : i < 32) : bt (x <<< (nI n &&& 31)) i = (decide (n ≤ i) && bt x (i - n)) := by
  unfold bt
  rw [Int32.toBitVec_shiftLeft]
  show (x.toBitVec <<< ((nI n &&& 31).toBitVec.smod 32).toNat).getLsbD i = _
  rw [s_l n hn, BitVec.getLsbD_shiftLeft]
  rcases Nat.lt_or_ge i n with h | h
  · simp [h, Nat.not_le.mpr h]
  · simp [hi, h, Nat.not_lt.mpr h]
theorem b_ushr (n : Nat) (hn : n < 32) (x : Int32) (i : Nat) : bt ((x.toUInt32 >>> ((nI n).toUInt32 &&& Int32.toUInt32 31)).toInt32) i = bt x (n + i) := by
  show (x.toUInt32 >>> ((nI n).toUInt32 &&& Int32.toUInt32 31)).toBitVec.getLsbD i = x.toUInt32.toBitVec.getLsbD (n + i)
  rw [UInt32.toBitVec_shiftRight]
  show (x.toUInt32.toBitVec >>> (((nI n).toUInt32 &&& Int32.toUInt32 31).toBitVec % 32).toNat).getLsbD i = _
  rw [s_u n hn, BitVec.getLsbD_ushiftRight]
theorem b_sshr (n : Nat) (hn : n < 32) (x : Int32) {i : Nat} (hi : i < 32) : bt (x >>> (nI n &&& 31)) i = if n + i < 32 then bt x (n + i) else bt x 31 := by
  unfold bt
  rw [Int32.toBitVec_shiftRight]
  show (x.toBitVec.sshiftRight ((nI n &&& 31).toBitVec.smod 32).toNat).getLsbD i = _
  rw [s_l n hn, BitVec.getLsbD_sshiftRight, BitVec.msb_eq_getLsbD_last]
  simp [hi]
theorem b_shl8 (x : Int32) {i : Nat} (hi : i < 32) : bt (x <<< ((8 : Int32) &&& 31)) i = (decide (8 ≤ i) && bt x (i - 8)) := b_shl 8 (by omega) x hi
theorem b_shl16 (x : Int32) {i : Nat} (hi : i < 32) : bt (x <<< ((16 : Int32) &&& 31)) i = (decide (16 ≤ i) && bt x (i - 16)) := b_shl 16 (by omega) x hi
theorem b_shl24 (x : Int32) {i : Nat} (hi : i < 32) : bt (x <<< ((24 : Int32) &&& 31)) i = (decide (24 ≤ i) && bt x (i - 24)) := b_shl 24 (by omega) x hi
theorem b_sshr8 (x : Int32) {i : Nat} (hi : i < 32) : bt (x >>> ((8 : Int32) &&& 31)) i = if 8 + i < 32 then bt x (8 + i) else bt x 31 := b_sshr 8 (by omega) x hi
/-! rows of our own -/
theorem b_1 : ∀ i, i < 32 → bt (nI 1) i = decide (i = 0) := by decide +kernel
theorem b_nM : ∀ i, i < 32 → bt nM i = true := by decide +kernel
theorem bt_bit {h i : Nat} (hh : h < 32) (hi : i < 32) : bt (t_bit h) i = decide (i = h) := by
  unfold t_bit
  rw [b_shl h hh _ hi]
  rcases Nat.lt_or_ge i h with q | q
  · simp [Nat.not_le.mpr q, show ¬ i = h by omega]
  · rw [b_1 _ (by omega)]
    simp [q, show (i - h = 0) = (i = h) by apply propext; omega]
theorem t_has_bt {x : Int32} {k : Nat} (hk : k < 32) : t_has x k = bt x k := by
  unfold t_has
  have e : ∀ i, i < 32 → bt ((x >>> (nI k &&& 31)) &&& nI 1) i = (decide (i = 0) && bt x k) := by
    intro i hi
    rw [b_and, b_1 i hi]
    by_cases h0 : i = 0
    · subst h0
      rw [b_sshr k hk _ (by omega), if_pos (by omega)]
      simp
    · simp [h0]
  cases hb : bt x k with
  | true =>
    refine decide_eq_true (b_ext fun i hi => ?_)
    rw [e i hi, hb, b_1 i hi, Bool.and_true]
  | false =>
    refine decide_eq_false fun h => ?_
    have := e 0 (by omega)
    rw [h, b_1 0 (by omega), hb] at this
    simp at this
theorem bt_not {x : Int32} {i : Nat} (hi : i < 32) : bt (x ^^^ nM) i = !bt x i := by rw [b_xor, b_nM i hi]; simp
theorem th_or {x y : Int32} {k : Nat} (hk : k < 32) : t_has (x ||| y) k = (t_has x k || t_has y k) := by rw [t_has_bt hk, t_has_bt hk, t_has_bt hk, b_or]
theorem th_and {x y : Int32} {k : Nat} (hk : k < 32) : t_has (x &&& y) k = (t_has x k && t_has y k) := by rw [t_has_bt hk, t_has_bt hk, t_has_bt hk, b_and]
theorem th_not {x : Int32} {k : Nat} (hk : k < 32) : t_has (x ^^^ nM) k = !t_has x k := by rw [t_has_bt hk, t_has_bt hk, bt_not hk]
theorem th_bit {h k : Nat} (hh : h < 32) (hk : k < 32) : t_has (t_bit h) k = decide (k = h) := by rw [t_has_bt hk, bt_bit hh hk]
theorem th_0 {k : Nat} (hk : k < 32) : t_has (nI 0) k = false := by rw [t_has_bt hk]; exact b_0 k
theorem th_ext {x y : Int32} (h : ∀ k, k < 32 → t_has x k = t_has y k) : x = y := b_ext fun i hi => by rw [← t_has_bt hi, ← t_has_bt hi, h i hi]
theorem th_OR {n : Nat} {p : Nat → Bool} (hn : n ≤ 32) : ∀ {k : Nat}, k < 32 → t_has (t_or n p) k = (decide (k < n) && p k) := by
  induction n with
  | zero => intro k hk; rw [t_or_0, th_0 hk]; simp
  | succ n ih =>
    intro k hk
    rw [t_or_s, th_or hk, ih (by omega) hk]
    by_cases e : k = n
    · subst e
      cases hp : p k <;> simp [th_bit (show k < 32 by omega) hk, th_0 hk]
    · have : (k < n + 1) = (k < n) := by apply propext; omega
      cases hp : p n <;> simp [th_bit (show n < 32 by omega) hk, th_0 hk, e, this]
