/-! CartelWatch: the world grows; bid -/
set_option maxRecDepth 100000
section ZWG
variable {w : zw_W} {M M1 : zw_M} {ad ad' : Nat → Nat → Nat → Nat} {σ σ' μ : zS} {th : Int32} {o : Int64}
/-- new cells at the places N; one old cell changes -/
theorem zW.grow (h : zW w M ad σ μ th o) (N : Nat → Nat → Nat → Prop) {k1 i1 j1 : Nat} {e1 : zw_En} (ha : ∀ k i j, ¬ N k i j → ad' k i j = ad k i j)
    (hN : ∀ k i j e, N k i j → zc w ad' σ' μ th o k i j = some e → M (ad' k i j) = none ∧ M1 (ad' k i j) = some e)
    (hNi : ∀ k i j k' i' j', N k i j → N k' i' j' → ad' k i j = ad' k' i' j' → k = k' ∧ i = i' ∧ j = j')
    (h1n : ¬ N k1 i1 j1) (hl1 : (zc w ad σ μ th o k1 i1 j1).isSome = true) (h1 : zc w ad' σ' μ th o k1 i1 j1 = some e1) (hM1 : M1 (ad k1 i1 j1) = some e1)
    (hk : ∀ a e, a ≠ ad k1 i1 j1 → M a = some e → M1 a = some e)
    (hr : ∀ k i j, ¬ N k i j → ¬ (k = k1 ∧ i = i1 ∧ j = j1) → zc w ad' σ' μ th o k i j = zc w ad σ μ th o k i j) : zW w M1 ad' σ' μ th o := by
  have live : ∀ k i j, ¬ N k i j → (zc w ad' σ' μ th o k i j).isSome = true → (zc w ad σ μ th o k i j).isSome = true := by
    intro k i j hn hs
    by_cases q : k = k1 ∧ i = i1 ∧ j = j1
    · obtain ⟨rfl, rfl, rfl⟩ := q; exact hl1
    · rw [hr k i j hn q] at hs; exact hs
  have there : ∀ k i j, (zc w ad σ μ th o k i j).isSome = true → ∃ e, M (ad k i j) = some e := fun k i j hs => by
    obtain ⟨e, he⟩ := Option.isSome_iff_exists.mp hs
    exact ⟨e, h.1 k i j e he⟩
  refine ⟨fun k i j e he => ?_, fun k i j k' i' j' hs hs' hq => ?_⟩
  · by_cases n : N k i j
    · exact (hN k i j e n he).2
    · rw [ha k i j n]
      by_cases q : k = k1 ∧ i = i1 ∧ j = j1
      · obtain ⟨rfl, rfl, rfl⟩ := q
        rw [h1] at he; cases he; exact hM1
      · have hs : (zc w ad σ μ th o k i j).isSome = true := live k i j n (by rw [he]; rfl)
        rw [hr k i j n q] at he
        exact hk _ _ (fun z => q (h.2 _ _ _ _ _ _ hs hl1 z)) (h.1 k i j e he)
  · by_cases n : N k i j
    · obtain ⟨e, he⟩ := Option.isSome_iff_exists.mp hs
      by_cases n' : N k' i' j'
      · exact hNi _ _ _ _ _ _ n n' hq
      · obtain ⟨e', he'⟩ := there k' i' j' (live k' i' j' n' hs')
        have z := (hN k i j e n he).1
        rw [hq, ha k' i' j' n', he'] at z; cases z
    · by_cases n' : N k' i' j'
      · obtain ⟨e', he'⟩ := Option.isSome_iff_exists.mp hs'
        obtain ⟨e, he⟩ := there k i j (live k i j n hs)
        have z := (hN k' i' j' e' n' he').1
        rw [← hq, ha k i j n, he] at z; cases z
      · rw [ha k i j n, ha k' i' j' n'] at hq
        exact h.2 _ _ _ _ _ _ (live _ _ _ n hs) (live _ _ _ n' hs') hq
/-- the addresses with q at one more place -/
def zad (ad : Nat → Nat → Nat → Nat) (k0 i0 j0 q : Nat) : Nat → Nat → Nat → Nat := fun k i j => if k = k0 ∧ i = i0 ∧ j = j0 then q else ad k i j
theorem zad_s {k i j q : Nat} : zad ad k i j q k i j = q := if_pos ⟨rfl, rfl, rfl⟩
theorem zad_n {k i j q k' i' j' : Nat} (h : ¬ (k' = k ∧ i' = i ∧ j' = j)) : zad ad k i j q k' i' j' = ad k' i' j' := if_neg h
theorem zcC_ad (hA : ∀ k i j, k ≠ 12 → ad' k i j = ad k i j) {k i j : Nat} (h11 : k = 11 → ∀ b, b < 7 → ¬ zv σ 4 (7 * i + b) = 0 → ad' 12 i b = ad 12 i b) : zcC w ad' σ k i j = zcC w ad σ k i j := by
  unfold zcC
  simp only [hA 1 0 0 (by decide), hA 2 0 0 (by decide), hA 3 0 0 (by decide), hA 10 _ _ (by decide), hA 11 _ _ (by decide), hA 20 _ _ (by decide), hA 21 _ _ (by decide), hA 22 _ _ (by decide), hA 23 _ _ (by decide), hA 24 _ _ (by decide), hA 25 _ _ (by decide)]
  by_cases z : k = 11
  · subst z
    have e : (fun b => if b < 7 then (if zv σ 4 (7 * i + b) = 0 then none else some (ad' 12 i b)) else none) = (fun b => if b < 7 then (if zv σ 4 (7 * i + b) = 0 then none else some (ad 12 i b)) else none) := by
      funext b
      by_cases hb7 : b < 7
      · rw [if_pos hb7, if_pos hb7]
        by_cases q : zv σ 4 (7 * i + b) = 0
        · rw [if_pos q, if_pos q]
        · rw [if_neg q, if_neg q, h11 rfl b hb7 q]
      · rw [if_neg hb7, if_neg hb7]
    rw [e]
  · rw [if_neg z, if_neg z]
theorem zcM_ad (hA : ∀ k i j, k ≠ 12 → ad' k i j = ad k i j) {k : Nat} : zcM w ad' μ th o k = zcM w ad μ th o k := by
  unfold zcM zmob
  simp only [hA _ _ _ (show (101 : Nat) ≠ 12 by decide), hA _ _ _ (show (102 : Nat) ≠ 12 by decide), hA _ _ _ (show (103 : Nat) ≠ 12 by decide), hA _ _ _ (show (104 : Nat) ≠ 12 by decide), hA _ _ _ (show (105 : Nat) ≠ 12 by decide), hA _ _ _ (show (106 : Nat) ≠ 12 by decide), hA _ _ _ (show (108 : Nat) ≠ 12 by decide), hA _ _ _ (show (109 : Nat) ≠ 12 by decide), hA _ _ _ (show (115 : Nat) ≠ 12 by decide), hA _ _ _ (show (116 : Nat) ≠ 12 by decide), hA _ _ _ (show (110 : Nat) ≠ 12 by decide), hA _ _ _ (show (111 : Nat) ≠ 12 by decide), hA _ _ _ (show (112 : Nat) ≠ 12 by decide), hA _ _ _ (show (113 : Nat) ≠ 12 by decide), hA _ _ _ (show (114 : Nat) ≠ 12 by decide)]
theorem zW.bid (h : zW w M ad σ μ th o) {t b q : Nat} {x : Int32} (ht : t < zn σ) (hb : b < 7) (hs : zv σ 4 (7 * t + b) = 0) (hx : ¬ x = 0) (h5 : zv σ 5 (7 * t + b) = 0) (hq : M q = none)
    (hM1 : M1 = zw_u (zw_u M q (zw_eC 2 [.int x, .int 0])) (ad 11 t 0) (zw_eB w 7 (va_up (fun b => if b < 7 then (if zv σ 4 (7 * t + b) = 0 then none else some (ad 12 t b)) else none) b (some q)))) : zW w M1 (zad ad 12 t b q) (zset σ 4 (7 * t + b) x) μ th o := by
  have hA : ∀ k i j, k ≠ 12 → zad ad 12 t b q k i j = ad k i j := fun k i j hk => zad_n (fun z => hk z.1)
  have e : ∀ v i, v ≠ 4 → zv (zset σ 4 (7 * t + b) x) v i = zv σ v i := fun v i hv => by rw [zset_v, if_neg (fun z => hv z.1)]
  have e4 : ∀ i, i ≠ 7 * t + b → zv (zset σ 4 (7 * t + b) x) 4 i = zv σ 4 i := fun i hi => by rw [zset_v, if_neg (fun z => hi z.2)]
  have e0 : zv (zset σ 4 (7 * t + b) x) 4 (7 * t + b) = x := by rw [zset_v, if_pos ⟨rfl, rfl⟩]
  have hqa : q ≠ ad 11 t 0 := Ne.symm (zw_nn (h.c11 ht) hq)
  refine h.grow (fun k i j => k = 12 ∧ i = t ∧ j = b) (k1 := 11) (i1 := t) (j1 := 0) (e1 := zw_eB w 7 (va_up (fun b => if b < 7 then (if zv σ 4 (7 * t + b) = 0 then none else some (ad 12 t b)) else none) b (some q))) (fun k i j n => zad_n n) ?_ ?_ (fun z => absurd z.1 (by decide)) (by rw [zc_11 ht]; rfl) ?_ (by rw [hM1]; exact zw_us) ?_ ?_
  · rintro k i j e9 ⟨rfl, rfl, rfl⟩ he
    rw [zad_s]
    refine ⟨hq, ?_⟩
    rw [zc_12 (σ := zset σ 4 (7 * i + j) x) ht hb (by rw [e0]; exact hx), e0, e 5 _ (by decide), h5] at he
    rw [hM1]
    cases he
    exact zw_un' hqa zw_us
  · rintro k i j k' i' j' ⟨rfl, rfl, rfl⟩ ⟨rfl, rfl, rfl⟩ _
    exact ⟨rfl, rfl, rfl⟩
  · rw [zc_11 (σ := zset σ 4 (7 * t + b) x) ht]
    congr 5
    funext b'
    by_cases z : b' = b
    · subst z
      rw [if_pos hb, e0, if_neg hx, zad_s]
      exact (va_up_self _ _ _).symm
    · rw [va_up_ne _ _ z]
      by_cases z7 : b' < 7
      · rw [if_pos z7, if_pos z7, e4 _ (by omega), zad_n (fun y => z y.2.2)]
      · rw [if_neg z7, if_neg z7]
  · intro a e9 ha he
    rw [hM1]
    exact zw_un' ha (zw_un' (zw_nn he hq) he)
  · intro k i j n n1
    unfold zc
    split
    · by_cases z : k = 11 ∧ i = t
      · obtain ⟨rfl, rfl⟩ := z
        have hj : ¬ j = 0 := fun y => n1 ⟨rfl, rfl, y⟩
        have no : ∀ (ad9 : Nat → Nat → Nat → Nat) (σ9 : zS), zcC w ad9 σ9 11 i j = none := fun ad9 σ9 => by
          unfold zcC
          rw [if_neg (by decide), if_pos (by decide)]
          split
          · simp [hj]
          · rfl
        rw [no, no]
      · rw [zcC_ad hA (fun y b' hb' _ => zad_n (fun u => z ⟨y, u.2.1⟩))]
        exact zcC_congr rfl rfl (fun _ => e 6 0 (by decide)) (fun _ => by funext i; exact e 13 i (by decide)) (fun _ _ a ha => e a i (by omega)) (fun y1 _ b' hb' => by rw [e4 _ (fun u => z ⟨y1, by omega⟩)]) (fun y1 y2 => ⟨e4 _ (fun u => n ⟨y1, by omega, by omega⟩), e 5 _ (by decide)⟩)
          (fun _ => ⟨e 9 _ (by decide), e 12 _ (by decide)⟩) (fun _ => ⟨e 7 _ (by decide), e 8 _ (by decide)⟩) (fun _ => rfl) (fun _ => rfl) (fun _ => zpr_ne (by decide) (by decide) (by decide)) (fun _ => zpr_ne (by decide) (by decide) (by decide))
    · rw [zcM_ad hA]
end ZWG
