/-! CartelWatch: what changes of a file -/
set_option maxRecDepth 100000
section ZWF
variable {w : zw_W} {M : zw_M} {ad : Nat → Nat → Nat → Nat} {σ μ : zS} {th : Int32} {o : Int64}
theorem zW.q20 (h : zW w M ad σ μ th o) {σ' : zS} {f : Nat} (hf : f < zg σ) (hn : zn σ' = zn σ) (hg : zg σ' = zg σ) (hm : ∀ f, zmt σ' f = zmt σ f) (hd : ∀ f, ztd σ' f = ztd σ f) (hv : ∀ v i, v ≠ 9 → v ≠ 12 → zv σ' v i = zv σ v i) (hi : ∀ v i, i ≠ f → zv σ' v i = zv σ v i) :
    zW w (zw_u M (ad 20 f 0) (zw_eC 4 [.ref (ad 21 f 0), .ref (ad 22 f 0), .ref (ad 23 f 0), .ref (ad 24 f 0), .ref (ad 25 f 0), .int (zv σ' 9 f), .int (zv σ' 12 f)])) ad σ' μ th o := by
  refine h.putC (k := 20) (i := f) (j := 0) (by decide) (by rw [zc_20 hf]; rfl) (zc_20 (by rw [hg]; exact hf)) (fun k' i' j' hk q => ?_)
  by_cases hj : j' = 0
  · exact zcC_congr hn hg (fun _ => hv 6 0 (by decide) (by decide)) (fun _ => by funext i; exact hv 13 i (by decide) (by decide)) (fun _ _ a _ => hv a i' (by omega) (by omega)) (fun _ _ b _ => by rw [hv 4 _ (by decide) (by decide)]) (fun _ _ => ⟨hv 4 _ (by decide) (by decide), hv 5 _ (by decide) (by decide)⟩)
      (fun z => ⟨hi 9 _ (fun y => q ⟨z, y, hj⟩), hi 12 _ (fun y => q ⟨z, y, hj⟩)⟩) (fun _ => ⟨hv 7 _ (by decide) (by decide), hv 8 _ (by decide) (by decide)⟩) (fun _ => hm _) (fun _ => hd _) (fun _ => zpr_of (hv 7 _ (by decide) (by decide)) (hv 8 _ (by decide) (by decide)) (hv 10 _ (by decide) (by decide)) (hv 10 _ (by decide) (by decide))) (fun _ => zpr_of (hv 7 _ (by decide) (by decide)) (hv 8 _ (by decide) (by decide)) (hv 11 _ (by decide) (by decide)) (hv 11 _ (by decide) (by decide)))
  · by_cases hk20 : k' < 20
    · exact zcC_congr hn hg (fun _ => hv 6 0 (by decide) (by decide)) (fun _ => by funext i; exact hv 13 i (by decide) (by decide)) (fun _ _ a _ => hv a i' (by omega) (by omega)) (fun _ _ b _ => by rw [hv 4 _ (by decide) (by decide)]) (fun _ _ => ⟨hv 4 _ (by decide) (by decide), hv 5 _ (by decide) (by decide)⟩)
        (fun z => by omega) (fun z => by omega) (fun z => by omega) (fun z => by omega) (fun z => by omega) (fun z => by omega)
    · unfold zcC
      rw [if_neg (by omega), if_neg hk20, if_neg (fun y => hj y.2), if_neg (by omega), if_neg hk20, if_neg (fun y => hj y.2)]
theorem zcC_j {k i j : Nat} (hk : 20 ≤ k) (hj : ¬ j = 0) : zcC w ad σ k i j = none := by
  unfold zcC
  rw [if_neg (by omega), if_neg (by omega), if_neg (fun y => hj y.2)]
theorem zW.q23 (h : zW w M ad σ μ th o) {f : Nat} {l : List Nat} (hf : f < zg σ) : zW w (zw_u M (ad 23 f 0) (zw_eL l.length (fun q => ad 10 (l.getD q 99) 0))) ad (zsett σ f l) μ th o := by
  have e : ztd (zsett σ f l) f = l := by rw [zsett_t, if_pos rfl]
  refine h.putC (k := 23) (i := f) (j := 0) (by decide) (by rw [zc_23 hf]; rfl) (by rw [zc_23 (σ := zsett σ f l) hf, e]) (fun k' i' j' hk q => ?_)
  by_cases hj : j' = 0 ∨ k' < 20
  · exact zcC_congr rfl rfl (fun _ => rfl) (fun _ => rfl) (fun _ _ _ _ => rfl) (fun _ _ _ _ => Iff.rfl) (fun _ _ => ⟨rfl, rfl⟩) (fun _ => ⟨rfl, rfl⟩) (fun _ => ⟨rfl, rfl⟩) (fun _ => rfl) (fun z => by rw [zsett_t, if_neg (fun y => q ⟨z, y, by omega⟩)]) (fun _ => rfl) (fun _ => rfl)
  · rw [zcC_j (by omega) (by omega), zcC_j (by omega) (by omega)]
/-- a row of 2f, 2f+1 as an int[7]: one of the pair's changes -/
theorem zpr_up {v f k : Nat} {x : Int32} (h7 : v ≠ 7) (h8 : v ≠ 8) (hk : k < 7) (hne : zv σ 7 f ≠ zv σ 8 f) (h : (nI k == zv σ 7 f || nI k == zv σ 8 f) = true) : zpr (zset σ v (zside σ f (nI k)) x) v f = upd (zpr σ v f) k x := by
  have e : ∀ a j, a ≠ v → zv (zset σ v (zside σ f (nI k)) x) a j = zv σ a j := fun a j ha => by rw [zset_v, if_neg (fun q => ha q.1)]
  funext c
  by_cases z : c = k
  · subst z
    rw [pk_us, zpr_side hk (by rw [e 7 f (Ne.symm h7), e 8 f (Ne.symm h8)]; exact h)]
    rw [show zside (zset σ v (zside σ f (nI c)) x) f (nI c) = zside σ f (nI c) from by show 2 * f + (if nI c = zv (zset σ v (zside σ f (nI c)) x) 7 f then 0 else 1) = _; rw [e 7 f (Ne.symm h7)]; rfl, zset_v, if_pos ⟨rfl, rfl⟩]
  · rw [pk_un z]
    unfold zpr
    by_cases hc : c < 7
    · have hck : nI c ≠ nI k := fun y => z ((nI_eq (by omega) (by omega)).mp y)
      rw [if_pos hc, if_pos hc, e 7 f (Ne.symm h7), e 8 f (Ne.symm h8)]
      rw [Bool.or_eq_true, beq_iff_eq, beq_iff_eq] at h
      by_cases c7 : nI c = zv σ 7 f
      · rw [if_pos c7, if_pos c7, zset_v, if_neg (fun y => ?_)]
        have y2 := y.2
        unfold zside at y2
        rw [if_neg (fun u => hck (c7.trans u.symm))] at y2
        omega
      · rw [if_neg c7, if_neg c7]
        by_cases c8 : nI c = zv σ 8 f
        · rw [if_pos c8, if_pos c8, zset_v, if_neg (fun y => ?_)]
          have y2 := y.2
          unfold zside at y2
          rcases h with u | u
          · rw [if_pos u] at y2; omega
          · exact hck (c8.trans u.symm)
        · rw [if_neg c8, if_neg c8]
    · rw [if_neg hc, if_neg hc]
theorem zpr_far {v i f g : Nat} {x : Int32} (hi : i = 2 * f ∨ i = 2 * f + 1) (h7 : v ≠ 7) (h8 : v ≠ 8) (hg : ¬ g = f) : zpr (zset σ v i x) v g = zpr σ v g := by
  have e : ∀ a j, a ≠ v → zv (zset σ v i x) a j = zv σ a j := fun a j ha => by rw [zset_v, if_neg (fun q => ha q.1)]
  exact zpr_of (e 7 g (Ne.symm h7)) (e 8 g (Ne.symm h8)) (by rw [zset_v, if_neg (fun q => by omega)]) (by rw [zset_v, if_neg (fun q => by omega)])
theorem zW.q24 (h : zW w M ad σ μ th o) {f k : Nat} {x : Int32} (hf : f < zg σ) (hk : k < 7) (hne : zv σ 7 f ≠ zv σ 8 f) (hb : (nI k == zv σ 7 f || nI k == zv σ 8 f) = true) : zW w (zw_u M (ad 24 f 0) (zw_eI w 7 (upd (zpr σ 10 f) k x))) ad (zset σ 10 (zside σ f (nI k)) x) μ th o := by
  have E : ∀ a j, a ≠ 10 → zv (zset σ 10 (zside σ f (nI k)) x) a j = zv σ a j := fun a j ha => by rw [zset_v, if_neg (fun q => ha q.1)]
  have hz8 : zside σ f (nI k) = 2 * f ∨ zside σ f (nI k) = 2 * f + 1 := by unfold zside; by_cases z : nI k = zv σ 7 f; rw [if_pos z]; exact Or.inl rfl; rw [if_neg z]; exact Or.inr rfl
  refine h.putC (k := 24) (i := f) (j := 0) (by decide) (by rw [zc_24 hf]; rfl) (by rw [zc_24 (σ := zset σ 10 (zside σ f (nI k)) x) hf, zpr_up (by decide) (by decide) hk hne hb]) (fun k' i' j' hk' q => ?_)
  by_cases hj : j' = 0
  · exact zcC_congr rfl rfl (fun _ => E 6 0 (by decide)) (fun _ => by funext i; exact E 13 i (by decide)) (fun _ _ a _ => E a i' (by omega)) (fun _ _ b _ => by rw [E 4 _ (by decide)]) (fun _ _ => ⟨E 4 _ (by decide), E 5 _ (by decide)⟩) (fun _ => ⟨E 9 _ (by decide), E 12 _ (by decide)⟩) (fun _ => ⟨E 7 _ (by decide), E 8 _ (by decide)⟩) (fun _ => rfl) (fun _ => rfl) (fun z => by rw [zpr_far hz8 (by decide) (by decide) (fun y => q ⟨z, y, hj⟩)]) (fun _ => zpr_ne (by decide) (by decide) (by decide))
  · by_cases hk20 : 20 ≤ k'
    · rw [zcC_j hk20 hj, zcC_j hk20 hj]
    · exact zcC_congr rfl rfl (fun _ => E 6 0 (by decide)) (fun _ => by funext i; exact E 13 i (by decide)) (fun _ _ a _ => E a i' (by omega)) (fun _ _ b _ => by rw [E 4 _ (by decide)]) (fun _ _ => ⟨E 4 _ (by decide), E 5 _ (by decide)⟩) (fun z => by omega) (fun z => by omega) (fun z => by omega) (fun z => by omega) (fun z => by omega) (fun z => by omega)
theorem zW.q25 (h : zW w M ad σ μ th o) {f k : Nat} {x : Int32} (hf : f < zg σ) (hk : k < 7) (hne : zv σ 7 f ≠ zv σ 8 f) (hb : (nI k == zv σ 7 f || nI k == zv σ 8 f) = true) : zW w (zw_u M (ad 25 f 0) (zw_eI w 7 (upd (zpr σ 11 f) k x))) ad (zset σ 11 (zside σ f (nI k)) x) μ th o := by
  have E : ∀ a j, a ≠ 11 → zv (zset σ 11 (zside σ f (nI k)) x) a j = zv σ a j := fun a j ha => by rw [zset_v, if_neg (fun q => ha q.1)]
  have hz8 : zside σ f (nI k) = 2 * f ∨ zside σ f (nI k) = 2 * f + 1 := by unfold zside; by_cases z : nI k = zv σ 7 f; rw [if_pos z]; exact Or.inl rfl; rw [if_neg z]; exact Or.inr rfl
  refine h.putC (k := 25) (i := f) (j := 0) (by decide) (by rw [zc_25 hf]; rfl) (by rw [zc_25 (σ := zset σ 11 (zside σ f (nI k)) x) hf, zpr_up (by decide) (by decide) hk hne hb]) (fun k' i' j' hk' q => ?_)
  by_cases hj : j' = 0
  · exact zcC_congr rfl rfl (fun _ => E 6 0 (by decide)) (fun _ => by funext i; exact E 13 i (by decide)) (fun _ _ a _ => E a i' (by omega)) (fun _ _ b _ => by rw [E 4 _ (by decide)]) (fun _ _ => ⟨E 4 _ (by decide), E 5 _ (by decide)⟩) (fun _ => ⟨E 9 _ (by decide), E 12 _ (by decide)⟩) (fun _ => ⟨E 7 _ (by decide), E 8 _ (by decide)⟩) (fun _ => rfl) (fun _ => rfl) (fun _ => zpr_ne (by decide) (by decide) (by decide)) (fun z => by rw [zpr_far hz8 (by decide) (by decide) (fun y => q ⟨z, y, hj⟩)])
  · by_cases hk20 : 20 ≤ k'
    · rw [zcC_j hk20 hj, zcC_j hk20 hj]
    · exact zcC_congr rfl rfl (fun _ => E 6 0 (by decide)) (fun _ => by funext i; exact E 13 i (by decide)) (fun _ _ a _ => E a i' (by omega)) (fun _ _ b _ => by rw [E 4 _ (by decide)]) (fun _ _ => ⟨E 4 _ (by decide), E 5 _ (by decide)⟩) (fun z => by omega) (fun z => by omega) (fun z => by omega) (fun z => by omega) (fun z => by omega) (fun z => by omega)
end ZWF
