/-! every call keeps what a run's states have -/
set_option maxRecDepth 100000
section ZINV
variable {σ : zS}
theorem znd {l : List Nat} {t : Nat} (h : l.Nodup) (ht : t ∉ l) : (l ++ [t]).Nodup := by
  unfold List.Nodup at *
  rw [List.pairwise_append]
  exact ⟨h, List.pairwise_singleton _ _, fun a ha b hb => by rw [List.mem_singleton] at hb; subst hb; intro e; exact ht (e ▸ ha)⟩
theorem zv_eq {v i v' i' : Nat} {x : Int32} (h : v' = v ∧ i' = i) : zv (zset σ v i x) v' i' = x := by rw [zset_v, if_pos h]
theorem zv_ne {v i v' i' : Nat} {x : Int32} (h : ¬ (v' = v ∧ i' = i)) : zv (zset σ v i x) v' i' = zv σ v' i' := by rw [zset_v, if_neg h]
theorem zI.s6 (h : zI σ) {i : Nat} {x : Int32} : zI (zset σ 6 i x) := h
theorem zI.s13 (h : zI σ) {i : Nat} {x : Int32} : zI (zset σ 13 i x) := h
theorem zI.s12 (h : zI σ) {f : Nat} (hf : f < zg σ) : zI (zset σ 12 f 1) := by
  refine ⟨h.1, h.2.1, h.2.2.1, h.2.2.2.1, h.2.2.2.2.1, h.2.2.2.2.2.1, h.2.2.2.2.2.2.1, h.2.2.2.2.2.2.2.1, h.2.2.2.2.2.2.2.2.1, fun g hg => ?_, fun g => ?_⟩
  · have hg : zg σ ≤ g := hg
    obtain ⟨a1, a2, a3, a4, a5, a6, a7⟩ := h.nf hg
    exact ⟨a1, a2, a3, a4, a5, a6, (zv_ne (by omega)).trans a7⟩
  · by_cases q : g = f
    · exact Or.inr (zv_eq ⟨rfl, q⟩)
    · rw [zv_ne (by omega)]; exact h.cl g
theorem zI.s11 (h : zI σ) {f i : Nat} {x : Int32} (hf : f < zg σ) (hi : i = 2 * f ∨ i = 2 * f + 1) : zI (zset σ 11 i x) := by
  refine ⟨h.1, h.2.1, h.2.2.1, h.2.2.2.1, h.2.2.2.2.1, h.2.2.2.2.2.1, h.2.2.2.2.2.2.1, h.2.2.2.2.2.2.2.1, h.2.2.2.2.2.2.2.2.1, fun g hg => ?_, h.2.2.2.2.2.2.2.2.2.2⟩
  have hg : zg σ ≤ g := hg
  obtain ⟨a1, a2, a3, a4, a5, a6, a7⟩ := h.nf hg
  exact ⟨a1, a2, a3, a4, (zv_ne (by omega)).trans a5, (zv_ne (by omega)).trans a6, a7⟩
theorem zI.award (h : zI σ) {t : Nat} {x y : Int32} (ht : t < zn σ) (h0 : zv σ 0 t = 0) (hx : x = 2 ∨ (x = 1 ∧ ∃ j, j < 7 ∧ y = nI j ∧ 0 < zv σ 4 (7 * t + j))) : zI (zset (zset σ 0 t x) 1 t y) := by
  have e0 : zv (zset (zset σ 0 t x) 1 t y) 0 t = x := (zv_ne (by omega)).trans (zv_eq ⟨rfl, rfl⟩)
  have en : ∀ s, s ≠ t → zv (zset (zset σ 0 t x) 1 t y) 0 s = zv σ 0 s := fun s hs => (zv_ne (by omega)).trans (zv_ne (by omega))
  refine ⟨h.1, fun s => ?_, fun s hs h1 => ?_, fun s hs => ?_, h.2.2.2.2.1, h.2.2.2.2.2.1, fun s hs => ?_, h.2.2.2.2.2.2.2.1, h.2.2.2.2.2.2.2.2.1, h.2.2.2.2.2.2.2.2.2.1, h.2.2.2.2.2.2.2.2.2.2⟩
  · by_cases q : s = t
    · subst q; rw [e0]
      rcases hx with z | ⟨z, -⟩
      · exact Or.inr (Or.inr z)
      · exact Or.inr (Or.inl z)
    · rw [en s q]; exact h.st s
  · by_cases q : s = t
    · subst q; rw [e0] at h1
      rcases hx with z | ⟨z, j, hj, hy, hp⟩
      · rw [z] at h1; exact absurd h1 (by decide)
      · exact ⟨j, hj, (zv_eq ⟨rfl, rfl⟩).trans hy, hp⟩
    · rw [en s q] at h1
      obtain ⟨j, hj, hy, hp⟩ := h.wi hs h1
      exact ⟨j, hj, ((zv_ne (by omega)).trans (zv_ne (by omega))).trans hy, hp⟩
  · by_cases q : s = t
    · subst q
      rcases h.pa ht with z | ⟨z, -⟩
      · exact Or.inl z
      · rw [h0] at z; exact absurd z (by decide)
    · rw [en s q]; exact h.pa hs
  · have hs : zn σ ≤ s := hs
    rw [en s (by omega)]; exact h.new hs
theorem zI.pass (h : zI σ) {t j : Nat} {x : Int32} (ht : t < zn σ) (h1 : zv σ 0 t = 1) (hj : j < 7) : zI (zset (zset σ 2 t (nI j)) 3 t x) := by
  refine ⟨h.1, h.2.1, h.2.2.1, fun s hs => ?_, h.2.2.2.2.1, h.2.2.2.2.2.1, fun s hs => ?_, h.2.2.2.2.2.2.2.1, h.2.2.2.2.2.2.2.2.1, h.2.2.2.2.2.2.2.2.2.1, h.2.2.2.2.2.2.2.2.2.2⟩
  · by_cases q : s = t
    · subst q; exact Or.inr ⟨h1, j, hj, (zv_ne (by omega)).trans (zv_eq ⟨rfl, rfl⟩)⟩
    · have e : zv (zset (zset σ 2 t (nI j)) 3 t x) 2 s = zv σ 2 s := (zv_ne (by omega)).trans (zv_ne (by omega))
      rw [e]; exact h.pa hs
  · have hs : zn σ ≤ s := hs
    exact ⟨(h.new hs).1, ((zv_ne (by omega)).trans (zv_ne (by omega))).trans (h.new hs).2.1, (h.new hs).2.2⟩
theorem zI.bid (h : zI σ) {t b : Nat} {x : Int32} (ht : t < zn σ) (hb : b < 7) (hx : 0 < x) : zI (zset σ 4 (7 * t + b) x) := by
  refine ⟨h.1, h.2.1, fun s hs h1 => ?_, h.2.2.2.1, fun i => ?_, fun i => ?_, fun s hs => ?_, h.2.2.2.2.2.2.2.1, h.2.2.2.2.2.2.2.2.1, h.2.2.2.2.2.2.2.2.2.1, h.2.2.2.2.2.2.2.2.2.2⟩
  · obtain ⟨j, hj, hy, hp⟩ := h.wi hs h1
    refine ⟨j, hj, hy, ?_⟩
    by_cases q : 7 * s + j = 7 * t + b
    · rw [zv_eq ⟨rfl, q⟩]; exact hx
    · rw [zv_ne (by omega)]; exact hp
  · by_cases q : i = 7 * t + b
    · rw [zv_eq ⟨rfl, q⟩]; exact Int32.le_of_lt hx
    · rw [zv_ne (by omega)]; exact h.sm i
  · rcases h.gs i with z | ⟨z, zp⟩
    · exact Or.inl z
    · refine Or.inr ⟨z, ?_⟩
      by_cases q : i = 7 * t + b
      · rw [zv_eq ⟨rfl, q⟩]; exact hx
      · rw [zv_ne (by omega)]; exact zp
  · have hs : zn σ ≤ s := hs
    exact ⟨(h.new hs).1, (h.new hs).2.1, fun b' hb' => ⟨(zv_ne (by omega)).trans ((h.new hs).2.2 b' hb').1, ((h.new hs).2.2 b' hb').2⟩⟩
theorem zI.with_ (h : zI σ) {t b : Nat} (ht : t < zn σ) (hb : b < 7) (hp : 0 < zv σ 4 (7 * t + b)) : zI (zset σ 5 (7 * t + b) 1) := by
  refine ⟨h.1, h.2.1, h.2.2.1, h.2.2.2.1, h.2.2.2.2.1, fun i => ?_, fun s hs => ?_, h.2.2.2.2.2.2.2.1, h.2.2.2.2.2.2.2.2.1, h.2.2.2.2.2.2.2.2.2.1, h.2.2.2.2.2.2.2.2.2.2⟩
  · by_cases q : i = 7 * t + b
    · subst q; exact Or.inr ⟨zv_eq ⟨rfl, rfl⟩, hp⟩
    · have e : zv (zset σ 5 (7 * t + b) 1) 5 i = zv σ 5 i := zv_ne (by omega)
      rw [e]; exact h.gs i
  · have hs : zn σ ≤ s := hs
    exact ⟨(h.new hs).1, (h.new hs).2.1, fun b' hb' => ⟨((h.new hs).2.2 b' hb').1, (zv_ne (by omega)).trans ((h.new hs).2.2 b' hb').2⟩⟩
theorem zI.tender (h : zI σ) (h30 : ¬ zn σ = 30) : zI (zsetn (zset σ 2 (zn σ) (-1)) (zn σ + 1)) := by
  have h29 := h.n
  refine ⟨⟨show zn σ + 1 ≤ 30 by omega, h.g⟩, h.2.1, fun s hs h1 => ?_, fun s hs => ?_, h.2.2.2.2.1, h.2.2.2.2.2.1, fun s hs => ?_, h.2.2.2.2.2.2.2.1, fun f hf => ?_, h.2.2.2.2.2.2.2.2.2.1, h.2.2.2.2.2.2.2.2.2.2⟩
  · have hs : s < zn σ + 1 := hs
    have h1 : zv σ 0 s = 1 := h1
    by_cases q : s = zn σ
    · rw [(h.new (by omega)).1] at h1; exact absurd h1 (by decide)
    · exact h.wi (by omega) h1
  · have hs : s < zn σ + 1 := hs
    by_cases q : s = zn σ
    · exact Or.inl (zv_eq (σ := σ) ⟨rfl, q⟩)
    · have e : zv (zsetn (zset σ 2 (zn σ) (-1)) (zn σ + 1)) 2 s = zv σ 2 s := zv_ne (σ := σ) (by omega)
      rw [e]; exact h.pa (by omega)
  · have hs : zn σ + 1 ≤ s := hs
    exact h.new (by omega)
  · obtain ⟨a1, a2, a3, a4⟩ := h.ls hf
    exact ⟨a1, fun t ht => Nat.lt_succ_of_lt (a2 t ht), a3, a4⟩
theorem zI.file (h : zI σ) {a b : Nat} {l : List Nat} (h20 : ¬ zg σ = 20) (hab : a < b) (hb : b < 7) (hl1 : l.Nodup) (hl2 : ∀ t ∈ l, t < zn σ) : zI (zsetg (zsetm (zset (zset (zset σ 7 (zg σ) (nI a)) 8 (zg σ) (nI b)) 9 (zg σ) (-1)) (zg σ) l) (zg σ + 1)) := by
  have h19 := h.g
  have em : ∀ f, zmt (zsetg (zsetm (zset (zset (zset σ 7 (zg σ) (nI a)) 8 (zg σ) (nI b)) 9 (zg σ) (-1)) (zg σ) l) (zg σ + 1)) f = if f = zg σ then l else zmt σ f := fun f => rfl
  have e7 : ∀ f, zv (zsetg (zsetm (zset (zset (zset σ 7 (zg σ) (nI a)) 8 (zg σ) (nI b)) 9 (zg σ) (-1)) (zg σ) l) (zg σ + 1)) 7 f = if f = zg σ then nI a else zv σ 7 f := fun f => by
    show zv (zset (zset (zset σ 7 (zg σ) (nI a)) 8 (zg σ) (nI b)) 9 (zg σ) (-1)) 7 f = _
    rw [zv_ne (by omega), zv_ne (by omega), zset_v]; simp
  have e8 : ∀ f, zv (zsetg (zsetm (zset (zset (zset σ 7 (zg σ) (nI a)) 8 (zg σ) (nI b)) 9 (zg σ) (-1)) (zg σ) l) (zg σ + 1)) 8 f = if f = zg σ then nI b else zv σ 8 f := fun f => by
    show zv (zset (zset (zset σ 7 (zg σ) (nI a)) 8 (zg σ) (nI b)) 9 (zg σ) (-1)) 8 f = _
    rw [zv_ne (by omega), zset_v]; simp [zv_ne]
  have e9 : ∀ f, zv (zsetg (zsetm (zset (zset (zset σ 7 (zg σ) (nI a)) 8 (zg σ) (nI b)) 9 (zg σ) (-1)) (zg σ) l) (zg σ + 1)) 9 f = if f = zg σ then -1 else zv σ 9 f := fun f => by
    show zv (zset (zset (zset σ 7 (zg σ) (nI a)) 8 (zg σ) (nI b)) 9 (zg σ) (-1)) 9 f = _
    rw [zset_v]; simp [zv_ne]
  refine ⟨⟨h.n, show zg σ + 1 ≤ 20 by omega⟩, h.2.1, h.2.2.1, h.2.2.2.1, h.2.2.2.2.1, h.2.2.2.2.2.1, h.2.2.2.2.2.2.1, fun f hf => ?_, fun f hf => ?_, fun f hf => ?_, h.2.2.2.2.2.2.2.2.2.2⟩
  · have hf : f < zg σ + 1 := hf
    rw [e7, e8, e9]
    by_cases q : f = zg σ
    · rw [if_pos q, if_pos q, if_pos q]; exact ⟨⟨a, b, hab, hb, rfl, rfl⟩, Or.inl rfl⟩
    · rw [if_neg q, if_neg q, if_neg q]; exact h.fi (by omega)
  · have hf : f < zg σ + 1 := hf
    rw [em]
    by_cases q : f = zg σ
    · rw [if_pos q]
      have e : ztd σ f = [] := (h.nf (by omega)).2.1
      refine ⟨hl1, hl2, ?_, fun t ht => ?_⟩
      · show (ztd σ f).Nodup
        rw [e]; exact List.nodup_nil
      · have ht : t ∈ ztd σ f := ht
        rw [e] at ht; exact absurd ht List.not_mem_nil
    · rw [if_neg q]; exact h.ls (by omega)
  · have hf : zg σ + 1 ≤ f := hf
    rw [em, if_neg (by omega)]; exact h.nf (by omega)
theorem zI.tell (h : zI σ) {f t i : Nat} {x y : Int32} (hf : f < zg σ) (hy : y = -1 ∨ y = zv σ 7 f ∨ y = zv σ 8 f) (hi : i = 2 * f ∨ i = 2 * f + 1) (ht : t ∈ zmt σ f) (ht2 : t ∉ ztd σ f) : zI (zset (zset (zsett σ f (ztd σ f ++ [t])) 9 f y) 10 i x) := by
  have e9 : ∀ g, zv (zset (zset (zsett σ f (ztd σ f ++ [t])) 9 f y) 10 i x) 9 g = if g = f then y else zv σ 9 g := fun g => by
    rw [zv_ne (by omega), zset_v]; simp [zsett_v]
  have et : ∀ g, ztd (zset (zset (zsett σ f (ztd σ f ++ [t])) 9 f y) 10 i x) g = if g = f then ztd σ f ++ [t] else ztd σ g := fun g => rfl
  have e10 : ∀ k, k ≠ i → zv (zset (zset (zsett σ f (ztd σ f ++ [t])) 9 f y) 10 i x) 10 k = zv σ 10 k := fun k hk => by
    rw [zv_ne (by omega), zv_ne (by omega)]; rfl
  refine ⟨h.1, h.2.1, h.2.2.1, h.2.2.2.1, h.2.2.2.2.1, h.2.2.2.2.2.1, h.2.2.2.2.2.2.1, fun g hg => ?_, fun g hg => ?_, fun g hg => ?_, h.2.2.2.2.2.2.2.2.2.2⟩
  · rw [e9]
    refine ⟨(h.fi hg).1, ?_⟩
    by_cases q : g = f
    · subst q; rw [if_pos rfl]; exact hy
    · rw [if_neg q]; exact (h.fi hg).2
  · rw [et]
    by_cases q : g = f
    · subst q; rw [if_pos rfl]
      obtain ⟨a1, a2, a3, a4⟩ := h.ls hg
      refine ⟨a1, a2, znd a3 ht2, fun s hs => ?_⟩
      rcases List.mem_append.mp hs with z | z
      · exact a4 s z
      · rw [List.mem_singleton] at z; rw [z]; exact ht
    · rw [if_neg q]; exact h.ls hg
  · have hg : zg σ ≤ g := hg
    obtain ⟨a1, a2, a3, a4, a5, a6, a7⟩ := h.nf hg
    rw [et, if_neg (by omega), e10 _ (by omega), e10 _ (by omega)]
    exact ⟨a1, a2, a3, a4, a5, a6, a7⟩
theorem zbest_ok (t : Nat) : zbest σ t = -1 ∨ ∃ j, j < 7 ∧ zbest σ t = nI j ∧ zst σ t j = true := by
  have key : ∀ k, k ≤ 7 → zf (zbestF σ t) k (-1) = -1 ∨ ∃ j, j < k ∧ zf (zbestF σ t) k (-1) = nI j ∧ zst σ t j = true := by
    intro k
    induction k with
    | zero => intro _; exact Or.inl rfl
    | succ k ih =>
      intro hk
      have ih := ih (by omega)
      rw [zf_s]
      generalize zf (zbestF σ t) k (-1) = a at ih ⊢
      by_cases z : (zst σ t k && (a == -1 || decide (zv σ 4 (7 * t + k) < zv σ 4 (7 * t + zx a)))) = true
      · have e : zbestF σ t k a = nI k := if_pos z
        rw [Bool.and_eq_true] at z
        rw [e]; exact Or.inr ⟨k, Nat.lt_succ_self k, rfl, z.1⟩
      · have e : zbestF σ t k a = a := if_neg z
        rw [e]
        rcases ih with y | ⟨j, hj, y1, y2⟩
        · exact Or.inl y
        · exact Or.inr ⟨j, by omega, y1, y2⟩
  exact key 7 (Nat.le_refl 7)
theorem zml_ok (a b : Int32) : (zml σ a b).Nodup ∧ ∀ t ∈ zml σ a b, t < zn σ := by
  have key : ∀ k, (zf (zmlF σ a b) k []).Nodup ∧ ∀ t ∈ zf (zmlF σ a b) k [], t < k := by
    intro k
    induction k with
    | zero => exact ⟨List.nodup_nil, fun t ht => absurd ht List.not_mem_nil⟩
    | succ k ih =>
      rw [zf_s]
      generalize zf (zmlF σ a b) k [] = l at ih ⊢
      by_cases z : 0 < zsign σ k a b
      · have e : zmlF σ a b k l = l ++ [k] := if_pos z
        rw [e]
        refine ⟨znd ih.1 (fun h => absurd (ih.2 k h) (Nat.lt_irrefl k)), fun t ht => ?_⟩
        rcases List.mem_append.mp ht with y | y
        · exact Nat.lt_succ_of_lt (ih.2 t y)
        · rw [List.mem_singleton] at y; omega
      · have e : zmlF σ a b k l = l := if_neg z
        rw [e]
        exact ⟨ih.1, fun t ht => Nat.lt_succ_of_lt (ih.2 t ht)⟩
  exact key (zn σ)
theorem zmo_pos {x : Int32} (h : zmo x = true) : 0 < x := by
  simp only [zmo, Bool.and_eq_true, decide_eq_true_eq] at h
  exact Int32.lt_of_lt_of_le (by decide) h.1
theorem zI.o_tender (h : zI σ) : zI (zop_tender σ).2.2 := by
  unfold zop_tender
  by_cases q : zn σ = 30
  · rw [if_pos q]; exact h
  · rw [if_neg q]; exact h.tender q
theorem zI.o_bid (h : zI σ) {t b x : Int32} : zI (zop_bid σ t b x).2.2 := by
  have hn := h.n
  unfold zop_bid
  by_cases h1 : zin t (zn σ) = false
  · rw [if_pos h1]; exact h
  · rw [if_neg h1]
    by_cases h2 : (zin b 7 && zmo x) = false
    · rw [if_pos h2]; exact h
    · rw [if_neg h2]
      by_cases h3 : (zv σ 0 (zx t) == 0 && decide (zv σ 4 (7 * zx t + zx b) ≤ 0)) = false
      · rw [if_pos h3]; exact h
      · rw [if_neg h3]
        rw [Bool.not_eq_false] at h1 h2
        rw [Bool.and_eq_true] at h2
        obtain ⟨j, hj, rfl⟩ := zin_of h1 (by omega)
        obtain ⟨k, hk, rfl⟩ := zin_of h2.1 (by decide)
        rw [zx_n (by omega : j < 2 ^ 31), zx_n (by omega : k < 2 ^ 31)]
        exact h.bid hj hk (zmo_pos h2.2)
theorem zI.o_withdraw (h : zI σ) {t b : Int32} : zI (zop_withdraw σ t b).2.2 := by
  have hn := h.n
  unfold zop_withdraw
  by_cases h1 : zin t (zn σ) = false
  · rw [if_pos h1]; exact h
  · rw [if_neg h1]
    by_cases h2 : zin b 7 = false
    · rw [if_pos h2]; exact h
    · rw [if_neg h2]
      by_cases h3 : (zv σ 0 (zx t) == 0 && zst σ (zx t) (zx b)) = false
      · rw [if_pos h3]; exact h
      · rw [if_neg h3]
        rw [Bool.not_eq_false] at h1 h2 h3
        rw [Bool.and_eq_true] at h3
        obtain ⟨j, hj, rfl⟩ := zin_of h1 (by omega)
        obtain ⟨k, hk, rfl⟩ := zin_of h2 (by decide)
        rw [zx_n (by omega : j < 2 ^ 31), zx_n (by omega : k < 2 ^ 31)] at h3 ⊢
        have hs := h3.2
        unfold zst at hs
        rw [Bool.and_eq_true, decide_eq_true_eq] at hs
        exact h.with_ hj hk hs.1
theorem zI.o_award (h : zI σ) {t : Int32} : zI (zop_award σ t).2.2 := by
  have hn := h.n
  unfold zop_award
  by_cases h1 : zin t (zn σ) = false
  · rw [if_pos h1]; exact h
  · rw [if_neg h1]
    by_cases h2 : (zv σ 0 (zx t) == 0) = false
    · rw [if_pos h2]; exact h
    · rw [if_neg h2]
      rw [Bool.not_eq_false] at h1 h2
      obtain ⟨j, hj, rfl⟩ := zin_of h1 (by omega)
      rw [zx_n (by omega : j < 2 ^ 31)] at h2 ⊢
      refine h.award hj (eq_of_beq h2) ?_
      rcases zbest_ok (σ := σ) j with z | ⟨k, hk, z1, z2⟩
      · exact Or.inl (if_pos z)
      · refine Or.inr ⟨if_neg (by rw [z1]; exact zs_neg1 k (by omega)), k, hk, z1, ?_⟩
        unfold zst at z2
        rw [Bool.and_eq_true, decide_eq_true_eq] at z2
        exact z2.1
theorem zI.o_passOn (h : zI σ) {t b x : Int32} : zI (zop_passOn σ t b x).2.2 := by
  have hn := h.n
  unfold zop_passOn
  by_cases h1 : zin t (zn σ) = false
  · rw [if_pos h1]; exact h
  · rw [if_neg h1]
    by_cases h2 : (zv σ 0 (zx t) == 1 && zv σ 2 (zx t) == -1) = false
    · rw [if_pos h2]; exact h
    · rw [if_neg h2]
      by_cases h3 : (zin b 7 && (decide (1 ≤ x) && decide (x ≤ zprice σ (zx t))) && !(b == zv σ 1 (zx t))) = false
      · rw [if_pos h3]; exact h
      · rw [if_neg h3]
        rw [Bool.not_eq_false] at h1 h2 h3
        rw [Bool.and_eq_true] at h2 h3
        rw [Bool.and_eq_true] at h3
        obtain ⟨j, hj, rfl⟩ := zin_of h1 (by omega)
        obtain ⟨k, hk, rfl⟩ := zin_of h3.1.1 (by decide)
        rw [zx_n (by omega : j < 2 ^ 31)] at h2 ⊢
        exact h.pass hj (eq_of_beq h2.1) hk
theorem zI.o_setMark (h : zI σ) {x : Int32} : zI (zop_setMark σ x).2.2 := by
  unfold zop_setMark
  by_cases q : (decide (1 ≤ x) && decide (x ≤ 1000)) = true
  · rw [if_pos q]; exact h.s6
  · rw [if_neg q]; exact h
theorem zI.o_compensate (h : zI σ) {b x : Int32} : zI (zop_compensate σ b x).2.2 := by
  unfold zop_compensate
  by_cases q : (zin b 7 && zmo x) = false
  · rw [if_pos q]; exact h
  · rw [if_neg q]; exact h.s13
theorem zI.o_file (h : zI σ) {x y : Int32} : zI (zop_file σ x y).2.2 := by
  unfold zop_file
  by_cases h1 : zpair x y = false
  · rw [if_pos h1]; exact h
  · rw [if_neg h1]
    by_cases h2 : (zhad σ (zs_min x y) (zs_max x y) || zg σ == 20 || decide (zsusp σ x y < zv σ 6 0)) = true
    · rw [if_pos h2]; exact h
    · rw [if_neg h2]
      rw [Bool.not_eq_false] at h1
      rw [Bool.not_eq_true, Bool.or_eq_false_iff, Bool.or_eq_false_iff] at h2
      obtain ⟨a, b, hab, hb, e1, e2, -⟩ := zpair_lh (σ := σ) h1
      rw [e1, e2]
      exact h.file (by simpa using h2.1.2) hab hb (zml_ok x y).1 (zml_ok x y).2
theorem zI.o_tell (h : zI σ) {f b t : Int32} : zI (zop_tell σ f b t).2.2 := by
  have hg := h.g
  have hn := h.n
  unfold zop_tell
  by_cases q : zfresh σ f b t = true
  · rw [if_pos q]
    unfold zfresh at q
    rw [Bool.and_eq_true, Bool.and_eq_true] at q
    obtain ⟨q1, q2, q3⟩ := q
    have q2 := of_decide_eq_true q2
    have q3 : ¬ zx t ∈ ztd σ (zx f) := by simpa using q3
    have q1 := eq_of_beq q1
    unfold ztellc at q1
    by_cases h1 : (zin f (zg σ) && zin t (zn σ)) = false
    · rw [if_pos h1] at q1; exact absurd q1 (by decide)
    · rw [if_neg h1] at q1
      by_cases h2 : zof σ (zx f) b = false
      · rw [if_pos h2] at q1; exact absurd q1 (by decide)
      · rw [Bool.not_eq_false] at h1 h2
        rw [Bool.and_eq_true] at h1
        obtain ⟨j, hj, rfl⟩ := zin_of h1.1 (by omega)
        rw [zx_n (by omega : j < 2 ^ 31)] at q2 q3 h2 ⊢
        unfold ztold
        refine h.tell hj ?_ ?_ q2 q3
        · by_cases z : zv σ 9 j = -1
          · rw [if_pos z]
            unfold zof at h2
            rw [Bool.or_eq_true] at h2
            rcases h2 with y | y
            · exact Or.inr (Or.inl (eq_of_beq y))
            · exact Or.inr (Or.inr (eq_of_beq y))
          · rw [if_neg z]; exact (h.fi hj).2
        · unfold zside
          by_cases z : b = zv σ 7 j
          · rw [if_pos z]; exact Or.inl rfl
          · rw [if_neg z]; exact Or.inr rfl
  · rw [if_neg q]; exact h
theorem zI.o_close (h : zI σ) {f : Int32} : zI (zop_close σ f).2.2 := by
  have hg := h.g
  unfold zop_close
  by_cases h1 : zin f (zg σ) = false
  · rw [if_pos h1]; exact h
  · rw [if_neg h1]
    by_cases h2 : zv σ 12 (zx f) = 0
    · rw [if_pos h2]
      rw [Bool.not_eq_false] at h1
      obtain ⟨j, hj, rfl⟩ := zin_of h1 (by omega)
      rw [zx_n (by omega : j < 2 ^ 31)]
      have a1 : zI (zcl1 σ j) := zI.s11 (σ := zpay σ j (zv σ 7 j) (zv σ 10 (2 * j))) h.s13 hj (Or.inl rfl)
      have a2 : zI (zcl2 σ j) := zI.s11 (σ := zpay (zcl1 σ j) j (zv σ 8 j) (zv σ 10 (2 * j + 1))) a1.s13 hj (Or.inr rfl)
      exact a2.s12 hj
    · rw [if_neg h2]; exact h
end ZINV
/-! closing a file: what is paid for one of the pair, and that the order of the changes doesn't matter -/
def zff (σ : zS) (f : Nat) (b : Int32) : zS := zset (zpay σ f b (zv σ 10 (zside σ f b))) 11 (zside σ f b) (zdue σ f b (zv σ 10 (zside σ f b)))
theorem zside_7 {σ : zS} {f : Nat} : zside σ f (zv σ 7 f) = 2 * f := by unfold zside; rw [if_pos rfl]; rfl
theorem zside_8 {σ : zS} {f : Nat} (h : zv σ 7 f ≠ zv σ 8 f) : zside σ f (zv σ 8 f) = 2 * f + 1 := by unfold zside; rw [if_neg (Ne.symm h)]
theorem zff_7 {σ : zS} {f : Nat} : zff σ f (zv σ 7 f) = zcl1 σ f := by unfold zff zcl1; rw [zside_7]
theorem zff_8 {σ : zS} {f : Nat} (h : zv σ 7 f ≠ zv σ 8 f) : zff (zcl1 σ f) f (zv σ 8 f) = zcl2 σ f := by
  have e : zside (zcl1 σ f) f (zv σ 8 f) = 2 * f + 1 := zside_8 (σ := zcl1 σ f) h
  unfold zff zcl2
  rw [e]
  rfl
theorem zff_12 {σ : zS} {f g : Nat} {b y : Int32} : zff (zset σ 12 g y) f b = zset (zff σ f b) 12 g y := by
  show zset (zset (zset σ 12 g y) 13 (zx b) (zv σ 13 (zx b) - zless σ f b (zv σ 10 (zside σ f b)))) 11 (zside σ f b) (zdue σ f b (zv σ 10 (zside σ f b))) = zset (zset (zset σ 13 (zx b) (zv σ 13 (zx b) - zless σ f b (zv σ 10 (zside σ f b)))) 11 (zside σ f b) (zdue σ f b (zv σ 10 (zside σ f b)))) 12 g y
  rw [zset_comm (v := 12) (v' := 13) (by decide), zset_comm (v := 12) (v' := 11) (by decide)]
theorem zclose_eq {σ : zS} {f : Nat} (h : zv σ 7 f ≠ zv σ 8 f) : zff (zff (zset σ 12 f 1) f (zv σ 7 f)) f (zv σ 8 f) = zset (zcl2 σ f) 12 f 1 := by
  rw [zff_12, zff_12, zff_7, zff_8 h]
theorem zI.ff {σ : zS} (h : zI σ) {f : Nat} {b : Int32} (hf : f < zg σ) : zI (zff σ f b) := by
  refine zI.s11 (σ := zpay σ f b (zv σ 10 (zside σ f b))) h.s13 hf ?_
  unfold zside
  by_cases z : b = zv σ 7 f
  · rw [if_pos z]; exact Or.inl rfl
  · rw [if_neg z]; exact Or.inr rfl
/-- what the first state of a run is -/
def zs0 : zS := (0, 0, fun v _ => if v = 6 then 10 else 0, fun _ => [], fun _ => [])
theorem zI0 : zI zs0 := ⟨⟨by decide, by decide⟩, fun _ => Or.inl rfl, fun t ht => absurd ht (Nat.not_lt_zero t), fun t ht => absurd ht (Nat.not_lt_zero t), fun _ => (by decide : (0 : Int32) ≤ 0), fun _ => Or.inl rfl, fun _ _ => ⟨rfl, rfl, fun _ _ => ⟨rfl, rfl⟩⟩, fun f hf => absurd hf (Nat.not_lt_zero f), fun f hf => absurd hf (Nat.not_lt_zero f), fun _ _ => ⟨rfl, rfl, rfl, rfl, rfl, rfl, rfl⟩, fun _ => Or.inl rfl⟩
