/-! CartelWatch: tell -/
set_option maxRecDepth 100000
theorem zlin_mem {w : zw_W} {M : zw_M} {ad : Nat → Nat → Nat → Nat} {σ μ : zS} {th : Int32} {o : Int64} (h : zW w M ad σ μ th o) {l : List Nat} {i : Nat} (hi : i < zn σ) (hl : ∀ t ∈ l, t < zn σ) : zlin (fun q => ad 10 (l.getD q 99) 0) (ad 10 i 0) l.length = decide (i ∈ l) := by
  have live : ∀ t, t < zn σ → (zc w ad σ μ th o 10 t 0).isSome = true := fun t ht => by rw [zc_10 ht]; rfl
  rw [Bool.eq_iff_iff, zlin_iff, decide_eq_true_eq]
  constructor
  · rintro ⟨q, hq, e⟩
    have hm : l.getD q 99 ∈ l := by rw [List.getD_eq_getElem?_getD, List.getElem?_eq_getElem hq]; exact List.getElem_mem hq
    obtain ⟨-, z, -⟩ := h.2 10 (l.getD q 99) 0 10 i 0 (live _ (hl _ hm)) (live _ hi) e
    rw [← z]; exact hm
  · intro hm
    obtain ⟨q, hq, e⟩ := List.getElem_of_mem hm
    refine ⟨q, hq, ?_⟩
    show ad 10 (l.getD q 99) 0 = ad 10 i 0
    rw [List.getD_eq_getElem?_getD, List.getElem?_eq_getElem hq, ← e]; rfl
theorem zlu_app (ad : Nat → Nat → Nat → Nat) (l : List Nat) (i : Nat) : zlu (fun q => ad 10 (l.getD q 99) 0) l.length (ad 10 i 0) = (fun q => ad 10 ((l ++ [i]).getD q 99) 0) := by
  funext q
  unfold zlu
  rcases Nat.lt_trichotomy q l.length with h | h | h
  · rw [if_neg (by omega)]
    simp only [List.getD_eq_getElem?_getD]
    rw [List.getElem?_append_left h]
  · subst h; rw [if_pos rfl]; simp [List.getD_eq_getElem?_getD]
  · rw [if_neg (by omega)]
    simp only [List.getD_eq_getElem?_getD]
    rw [List.getElem?_eq_none (by omega), List.getElem?_eq_none (by simp; omega)]
theorem zlen_le {l : List Nat} (hl : l.Nodup) {n : Nat} (h : ∀ t ∈ l, t < n) : l.length ≤ n := by
  have key : ∀ k, (l.filter (fun t => decide (t < k))).length ≤ k := by
    intro k
    induction k with
    | zero => rw [List.filter_eq_nil_iff.mpr (by simp)]; exact Nat.le_refl 0
    | succ k ih => rw [zcnt_s hl k]; split <;> omega
  have := key n
  rwa [List.filter_eq_self.mpr (fun t ht => by simpa using h t ht)] at this
