/-! sets of places as bits (bt, b_ext .. : out of the kit's bits to paste) -/
set_option maxRecDepth 100000
def bt (x : Int32) (i : Nat) : Bool := x.toBitVec.getLsbD i
theorem b_ext {x y : Int32} (h : ∀ i, i < 32 → bt x i = bt y i) : x = y := Int32.toBitVec_inj.mp (BitVec.eq_of_getLsbD_eq (fun i hi => h i hi))
theorem b_or (x y : Int32) (i : Nat) : bt (x ||| y) i = (bt x i || bt y i) := by unfold bt; rw [Int32.toBitVec_or, BitVec.getLsbD_or]
theorem b_and (x y : Int32) (i : Nat) : bt (x &&& y) i = (bt x i && bt y i) := by unfold bt; rw [Int32.toBitVec_and, BitVec.getLsbD_and]
theorem b_big {x : Int32} {i : Nat} (h : 32 ≤ i) : bt x i = false := BitVec.getLsbD_of_ge _ _ h
theorem b_0 (i : Nat) : bt 0 i = false := BitVec.getLsbD_zero
theorem s_l : ∀ n, n < 32 → ((nI n &&& 31).toBitVec.smod 32).toNat = n := by decide +kernel
theorem b_shl (n : Nat) (hn : n < 32) (x : Int32) {i : Nat} (hi : i < 32) : bt (x <<< (nI n &&& 31)) i = (decide (n ≤ i) && bt x (i - n)) := by
  unfold bt
  rw [Int32.toBitVec_shiftLeft]
  show (x.toBitVec <<< ((nI n &&& 31).toBitVec.smod 32).toNat).getLsbD i = _
  rw [s_l n hn, BitVec.getLsbD_shiftLeft]
  rcases Nat.lt_or_ge i n with h | h
  · simp [h, Nat.not_le.mpr h]
  · simp [hi, h, Nat.not_lt.mpr h]
theorem b_sshr (n : Nat) (hn : n < 32) (x : Int32) {i : Nat} (hi : i < 32) : bt (x >>> (nI n &&& 31)) i = if n + i < 32 then bt x (n + i) else bt x 31 := by
  unfold bt
  rw [Int32.toBitVec_shiftRight]
  show (x.toBitVec.sshiftRight ((nI n &&& 31).toBitVec.smod 32).toNat).getLsbD i = _
  rw [s_l n hn, BitVec.getLsbD_sshiftRight, BitVec.msb_eq_getLsbD_last]
  simp [hi]
theorem zb_b1 : ∀ i, i < 32 → bt 1 i = decide (i = 0) := by decide +kernel
theorem zb_bb (b : Bool) : ∀ i, i < 32 → bt (zb b) i = (b && decide (i = 0)) := by cases b <;> decide +kernel
theorem zbit_b {t i : Nat} (ht : t < 32) (hi : i < 32) : bt (zbit t) i = decide (i = t) := by
  unfold zbit
  rw [b_shl t ht 1 hi, zb_b1 (i - t) (by omega)]
  rcases Nat.lt_trichotomy i t with h | h | h
  · simp [Nat.not_le.mpr h, Nat.ne_of_lt h]
  · subst h; simp
  · have h1 : ¬ i - t = 0 := by omega
    have h2 : ¬ i = t := by omega
    simp [h1, h2]
theorem zbits_go (l : List Nat) : ∀ (a : Int32) {i : Nat}, (∀ t ∈ l, t < 32) → i < 32 → bt (l.foldl (fun a t => a ||| zbit t) a) i = (bt a i || decide (i ∈ l)) := by
  induction l with
  | nil => intro a i _ _; simp
  | cons t l ih =>
    intro a i hl hi
    rw [List.foldl_cons, ih _ (fun x hx => hl x (List.mem_cons_of_mem _ hx)) hi, b_or, zbit_b (hl t List.mem_cons_self) hi]
    by_cases q : i = t
    · subst q; simp
    · simp [q]
theorem zbits_b {l : List Nat} {i : Nat} (hl : ∀ t ∈ l, t < 32) (hi : i < 32) : bt (zbits l) i = decide (i ∈ l) := by
  unfold zbits
  rw [zbits_go l 0 hl hi, b_0, Bool.false_or]
theorem zbits_at {l : List Nat} {k : Nat} (hl : ∀ t ∈ l, t < 32) (hk : k < 32) : (zbits l >>> (nI k &&& 31)) &&& 1 = zb (decide (k ∈ l)) := by
  refine b_ext (fun i hi => ?_)
  rw [b_and, b_sshr k hk _ hi, zb_b1 i hi, zb_bb _ i hi]
  by_cases q : i = 0
  · subst q
    rw [Nat.add_zero, if_pos hk, zbits_b hl hk]
  · simp [q]
theorem zcnt_s {l : List Nat} (hl : l.Nodup) (n : Nat) : (l.filter (fun t => decide (t < n + 1))).length = (l.filter (fun t => decide (t < n))).length + (if n ∈ l then 1 else 0) := by
  induction l with
  | nil => simp
  | cons a l ih =>
    rw [List.nodup_cons] at hl
    have h := ih hl.2
    simp only [List.filter_cons]
    rcases Nat.lt_trichotomy a n with q | q | q
    · rw [if_pos (by simp; omega), if_pos (by simp; omega), List.length_cons, List.length_cons, h]
      by_cases z : n ∈ l
      · rw [if_pos z, if_pos (List.mem_cons_of_mem _ z)]
      · rw [if_neg z, if_neg (by simp; exact ⟨by omega, z⟩)]
    · subst q
      rw [if_pos (by simp), if_neg (by simp), List.length_cons, h, if_neg hl.1, if_pos List.mem_cons_self]
    · rw [if_neg (by simp; omega), if_neg (by simp; omega), h]
      by_cases z : n ∈ l
      · rw [if_pos z, if_pos (List.mem_cons_of_mem _ z)]
      · rw [if_neg z, if_neg (by simp; exact ⟨by omega, z⟩)]
def zcntF (x : Int32) (k : Nat) (a : Int32) : Int32 := a + ((x >>> (nI k &&& 31)) &&& 1)
theorem zcnt_n {l : List Nat} (hl : l.Nodup) (h32 : ∀ t ∈ l, t < 32) : ∀ n, n ≤ 32 → zf (zcntF (zbits l)) n 0 = nI (l.filter (fun t => decide (t < n))).length := by
  intro n
  induction n with
  | zero =>
    intro _
    rw [List.filter_eq_nil_iff.mpr (by simp)]
    rfl
  | succ n ih =>
    intro hn
    rw [zf_s, ih (by omega), zcnt_s hl n]
    unfold zcntF
    rw [zbits_at h32 (by omega)]
    by_cases z : n ∈ l
    · rw [if_pos z, ← nI_1]; simp [z, zb]
    · rw [if_neg z]; simp [z, zb]
theorem zpair_of {a b : Int32} (h : zpair a b = true) : ∃ ja jb : Nat, ja < 7 ∧ jb < 7 ∧ a = nI ja ∧ b = nI jb ∧ ja ≠ jb := by
  simp only [zpair, Bool.and_eq_true, Bool.not_eq_true', beq_eq_false_iff_ne, ne_eq] at h
  obtain ⟨ja, h1, rfl⟩ := zin_of h.1.1 (by decide)
  obtain ⟨jb, h2, rfl⟩ := zin_of h.1.2 (by decide)
  exact ⟨ja, jb, h1, h2, rfl, rfl, fun q => h.2 (by rw [q])⟩
theorem zcnt_all {l : List Nat} (hl : l.Nodup) (h30 : ∀ t ∈ l, t < 30) : zf (zcntF (zbits l)) 30 0 = nI l.length := by
  rw [zcnt_n hl (fun t ht => by have := h30 t ht; omega) 30 (by decide)]
  congr 1
  rw [List.filter_eq_self.mpr (fun t ht => by simpa using h30 t ht)]

