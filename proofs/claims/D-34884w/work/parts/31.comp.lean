/-! the component's side of the world: what is there, what changes -/
set_option maxRecDepth 100000
section ZWC
variable {w : zw_W} {M : zw_M} {ad : Nat → Nat → Nat → Nat} {σ μ : zS} {th : Int32} {o : Int64}
theorem zW.c0 (h : zW w M ad σ μ th o) : M (ad 0 0 0) = some (zw_eC 0 [.ref (ad 1 0 0), .ref (ad 2 0 0), .ref (ad 3 0 0), .int (zv σ 6 0)]) := h.1 0 0 0 _ rfl
theorem zW.c1 (h : zW w M ad σ μ th o) : M (ad 1 0 0) = some (zw_eL (zn σ) (fun t => ad 10 t 0)) := h.1 1 0 0 _ rfl
theorem zW.c2 (h : zW w M ad σ μ th o) : M (ad 2 0 0) = some (zw_eL (zg σ) (fun f => ad 20 f 0)) := h.1 2 0 0 _ rfl
theorem zW.c3 (h : zW w M ad σ μ th o) : M (ad 3 0 0) = some (zw_eI w 7 (zv σ 13)) := h.1 3 0 0 _ rfl
theorem zc_10 {i : Nat} (hi : i < zn σ) : zc w ad σ μ th o 10 i 0 = some (zw_eC 1 [.ref (ad 11 i 0), .int (if zv σ 0 i = 0 then 1 else 0), .int (if zv σ 0 i = 1 then zv σ 1 i else -1), .int (zv σ 2 i), .int (zv σ 3 i)]) := by
  rw [zc_lo (by decide)]; unfold zcC; rw [if_neg (by decide), if_pos (by decide), if_pos hi, if_neg (by decide), if_neg (by decide), if_pos rfl]
theorem zc_11 {i : Nat} (hi : i < zn σ) : zc w ad σ μ th o 11 i 0 = some (zw_eB w 7 (fun b => if b < 7 then (if zv σ 4 (7 * i + b) = 0 then none else some (ad 12 i b)) else none)) := by
  rw [zc_lo (by decide)]; unfold zcC; rw [if_neg (by decide), if_pos (by decide), if_pos hi, if_neg (by decide), if_neg (by decide), if_neg (by decide), if_pos rfl]
theorem zc_12 {i j : Nat} (hi : i < zn σ) (hj : j < 7) (hs : ¬ zv σ 4 (7 * i + j) = 0) : zc w ad σ μ th o 12 i j = some (zw_eC 2 [.int (zv σ 4 (7 * i + j)), .int (zv σ 5 (7 * i + j))]) := by
  rw [zc_lo (by decide)]; unfold zcC; rw [if_neg (by decide), if_pos (by decide), if_pos hi, if_pos rfl, if_pos ⟨hj, hs⟩]
theorem zc_20 {i : Nat} (hi : i < zg σ) : zc w ad σ μ th o 20 i 0 = some (zw_eC 4 [.ref (ad 21 i 0), .ref (ad 22 i 0), .ref (ad 23 i 0), .ref (ad 24 i 0), .ref (ad 25 i 0), .int (zv σ 9 i), .int (zv σ 12 i)]) := by
  rw [zc_lo (by decide)]; unfold zcC; rw [if_neg (by decide), if_neg (by decide), if_pos ⟨hi, rfl⟩, if_pos rfl]
theorem zW.c20 (h : zW w M ad σ μ th o) {i : Nat} (hi : i < zg σ) : M (ad 20 i 0) = some (zw_eC 4 [.ref (ad 21 i 0), .ref (ad 22 i 0), .ref (ad 23 i 0), .ref (ad 24 i 0), .ref (ad 25 i 0), .int (zv σ 9 i), .int (zv σ 12 i)]) := h.1 20 i 0 _ (zc_20 hi)
theorem zc_21 {i : Nat} (hi : i < zg σ) : zc w ad σ μ th o 21 i 0 = some (zw_eC 3 [.int (zv σ 7 i), .int (zv σ 8 i)]) := by
  rw [zc_lo (by decide)]; unfold zcC; rw [if_neg (by decide), if_neg (by decide), if_pos ⟨hi, rfl⟩, if_neg (by decide), if_pos rfl]
theorem zW.c21 (h : zW w M ad σ μ th o) {i : Nat} (hi : i < zg σ) : M (ad 21 i 0) = some (zw_eC 3 [.int (zv σ 7 i), .int (zv σ 8 i)]) := h.1 21 i 0 _ (zc_21 hi)
theorem zc_22 {i : Nat} (hi : i < zg σ) : zc w ad σ μ th o 22 i 0 = some (zw_eL (zmt σ i).length (fun q => ad 10 ((zmt σ i).getD q 99) 0)) := by
  rw [zc_lo (by decide)]; unfold zcC; rw [if_neg (by decide), if_neg (by decide), if_pos ⟨hi, rfl⟩, if_neg (by decide), if_neg (by decide), if_pos rfl]
theorem zW.c22 (h : zW w M ad σ μ th o) {i : Nat} (hi : i < zg σ) : M (ad 22 i 0) = some (zw_eL (zmt σ i).length (fun q => ad 10 ((zmt σ i).getD q 99) 0)) := h.1 22 i 0 _ (zc_22 hi)
theorem zc_23 {i : Nat} (hi : i < zg σ) : zc w ad σ μ th o 23 i 0 = some (zw_eL (ztd σ i).length (fun q => ad 10 ((ztd σ i).getD q 99) 0)) := by
  rw [zc_lo (by decide)]; unfold zcC; rw [if_neg (by decide), if_neg (by decide), if_pos ⟨hi, rfl⟩, if_neg (by decide), if_neg (by decide), if_neg (by decide), if_pos rfl]
theorem zW.c23 (h : zW w M ad σ μ th o) {i : Nat} (hi : i < zg σ) : M (ad 23 i 0) = some (zw_eL (ztd σ i).length (fun q => ad 10 ((ztd σ i).getD q 99) 0)) := h.1 23 i 0 _ (zc_23 hi)
theorem zc_24 {i : Nat} (hi : i < zg σ) : zc w ad σ μ th o 24 i 0 = some (zw_eI w 7 (zpr σ 10 i)) := by
  rw [zc_lo (by decide)]; unfold zcC; rw [if_neg (by decide), if_neg (by decide), if_pos ⟨hi, rfl⟩, if_neg (by decide), if_neg (by decide), if_neg (by decide), if_neg (by decide), if_pos rfl]
theorem zW.c24 (h : zW w M ad σ μ th o) {i : Nat} (hi : i < zg σ) : M (ad 24 i 0) = some (zw_eI w 7 (zpr σ 10 i)) := h.1 24 i 0 _ (zc_24 hi)
theorem zc_25 {i : Nat} (hi : i < zg σ) : zc w ad σ μ th o 25 i 0 = some (zw_eI w 7 (zpr σ 11 i)) := by
  rw [zc_lo (by decide)]; unfold zcC; rw [if_neg (by decide), if_neg (by decide), if_pos ⟨hi, rfl⟩, if_neg (by decide), if_neg (by decide), if_neg (by decide), if_neg (by decide), if_neg (by decide), if_pos rfl]
theorem zW.c25 (h : zW w M ad σ μ th o) {i : Nat} (hi : i < zg σ) : M (ad 25 i 0) = some (zw_eI w 7 (zpr σ 11 i)) := h.1 25 i 0 _ (zc_25 hi)
theorem zW.c10 (h : zW w M ad σ μ th o) {i : Nat} (hi : i < zn σ) : M (ad 10 i 0) = some (zw_eC 1 [.ref (ad 11 i 0), .int (if zv σ 0 i = 0 then 1 else 0), .int (if zv σ 0 i = 1 then zv σ 1 i else -1), .int (zv σ 2 i), .int (zv σ 3 i)]) := h.1 10 i 0 _ (zc_10 hi)
theorem zW.c11 (h : zW w M ad σ μ th o) {i : Nat} (hi : i < zn σ) : M (ad 11 i 0) = some (zw_eB w 7 (fun b => if b < 7 then (if zv σ 4 (7 * i + b) = 0 then none else some (ad 12 i b)) else none)) := h.1 11 i 0 _ (zc_11 hi)
theorem zW.c12 (h : zW w M ad σ μ th o) {i j : Nat} (hi : i < zn σ) (hj : j < 7) (hs : ¬ zv σ 4 (7 * i + j) = 0) : M (ad 12 i j) = some (zw_eC 2 [.int (zv σ 4 (7 * i + j)), .int (zv σ 5 (7 * i + j))]) := h.1 12 i j _ (zc_12 hi hj hs)
theorem zW.tender (h : zW w M ad σ μ th o) (hp : ∀ i, 0 ≤ zv σ 4 i) {i : Nat} (hi : i < zn σ) : zt_T w M (ad 10 i 0) (if zv σ 0 i = 0 then 1 else 0) (if zv σ 0 i = 1 then zv σ 1 i else -1) (zv σ 2 i) (zv σ 3 i) (fun b => zv σ 4 (7 * i + b)) (fun b => zv σ 5 (7 * i + b)) := by
  refine ⟨_, _, h.c10 hi, h.c11 hi, fun b hb => ?_⟩
  by_cases q : zv σ 4 (7 * i + b) = 0
  · exact Or.inl ⟨(if_pos hb).trans (if_pos q), q⟩
  · refine Or.inr ⟨ad 12 i b, (if_pos hb).trans (if_neg q), h.c12 hi hb q, ?_⟩
    rcases Int32.lt_or_eq_of_le (hp (7 * i + b)) with z | z
    · exact z
    · exact absurd z.symm q
/-- a cell is told alike by two states that agree on what it holds -/
theorem zcC_congr {σ' : zS} {k i j : Nat} (hn : zn σ' = zn σ) (hg : zg σ' = zg σ) (h0 : k = 0 → zv σ' 6 0 = zv σ 6 0) (h3 : k = 3 → zv σ' 13 = zv σ 13)
    (h10 : k = 10 → j = 0 → ∀ a, a < 4 → zv σ' a i = zv σ a i) (h11 : k = 11 → j = 0 → ∀ b, b < 7 → (zv σ' 4 (7 * i + b) = 0 ↔ zv σ 4 (7 * i + b) = 0)) (h12 : k = 12 → j < 7 → zv σ' 4 (7 * i + j) = zv σ 4 (7 * i + j) ∧ zv σ' 5 (7 * i + j) = zv σ 5 (7 * i + j))
    (h20 : k = 20 → zv σ' 9 i = zv σ 9 i ∧ zv σ' 12 i = zv σ 12 i) (h21 : k = 21 → zv σ' 7 i = zv σ 7 i ∧ zv σ' 8 i = zv σ 8 i) (h22 : k = 22 → zmt σ' i = zmt σ i) (h23 : k = 23 → ztd σ' i = ztd σ i)
    (h24 : k = 24 → zpr σ' 10 i = zpr σ 10 i) (h25 : k = 25 → zpr σ' 11 i = zpr σ 11 i) : zcC w ad σ' k i j = zcC w ad σ k i j := by
  unfold zcC
  rw [hn, hg]
  split
  · split
    · split
      · rename_i z; rw [h0 z]
      · split
        · rfl
        · split
          · rfl
          · split
            · rename_i z; rw [h3 z]
            · rfl
    · rfl
  · split
    · split
      · split
        · rename_i z
          by_cases hj : j < 7
          · rw [(h12 z hj).1, (h12 z hj).2]
          · rw [if_neg (fun q => hj q.1), if_neg (fun q => hj q.1)]
        · split
          · rfl
          · rename_i hj; have hj : j = 0 := Classical.not_not.mp hj
            split
            · rename_i z
              rw [h10 z hj 0 (by decide), h10 z hj 1 (by decide), h10 z hj 2 (by decide), h10 z hj 3 (by decide)]
            · split
              · rename_i z
                congr 5
                funext b
                by_cases hb7 : b < 7
                · rw [if_pos hb7, if_pos hb7]
                  by_cases q : zv σ 4 (7 * i + b) = 0
                  · rw [if_pos q, if_pos ((h11 z hj b hb7).mpr q)]
                  · rw [if_neg q, if_neg (fun y => q ((h11 z hj b hb7).mp y))]
                · rw [if_neg hb7, if_neg hb7]
              · rfl
      · rfl
    · split
      · split
        · rename_i z; rw [(h20 z).1, (h20 z).2]
        · split
          · rename_i z; rw [(h21 z).1, (h21 z).2]
          · split
            · rename_i z; rw [h22 z]
            · split
              · rename_i z; rw [h23 z]
              · split
                · rename_i z; rw [h24 z]
                · split
                  · rename_i z; rw [h25 z]
                  · rfl
      · rfl
theorem zW.putC {σ' : zS} (h : zW w M ad σ μ th o) {k i j : Nat} {e : zw_En} (hk : k < 100) (hl : (zc w ad σ μ th o k i j).isSome = true) (hn : zc w ad σ' μ th o k i j = some e)
    (hr : ∀ k' i' j', k' < 100 → ¬ (k' = k ∧ i' = i ∧ j' = j) → zcC w ad σ' k' i' j' = zcC w ad σ k' i' j') : zW w (zw_u M (ad k i j) e) ad σ' μ th o := by
  refine h.put hl hn (fun k' i' j' q => ?_)
  unfold zc
  split
  · rename_i z; exact hr k' i' j' z q
  · rfl
end ZWC
