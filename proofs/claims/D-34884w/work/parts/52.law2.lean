/-! the first world; the loop; the law whole -/
set_option maxRecDepth 100000
theorem zinj {f : Nat → Nat} : ∀ {K : List Nat}, (K.map f).Nodup → ∀ {k k' : Nat}, k ∈ K → k' ∈ K → f k = f k' → k = k'
  | [], _, _, _, h, _, _ => absurd h List.not_mem_nil
  | x :: K, hn, k, k', h, h', e => by
    rw [List.map_cons, List.nodup_cons] at hn
    rcases List.mem_cons.mp h with g | g
    · rcases List.mem_cons.mp h' with g' | g'
      · rw [g, g']
      · exact absurd (List.mem_map.mpr ⟨k', g', by rw [← g]; exact e.symm⟩) hn.1
    · rcases List.mem_cons.mp h' with g' | g'
      · exact absurd (List.mem_map.mpr ⟨k, g, by rw [← g']; exact e⟩) hn.1
      · exact zinj hn.2 g g' e
theorem znd_app {M : zw_M} {l1 l2 : List Nat} (h1 : l1.Nodup) (hs : ∀ x ∈ l1, ∃ e, M x = some e) (h2 : l2.Nodup) (hn : ∀ x ∈ l2, M x = none) : (l1 ++ l2).Nodup := by
  unfold List.Nodup at *
  rw [List.pairwise_append]
  refine ⟨h1, h2, fun a ha b hb e => ?_⟩
  obtain ⟨e1, he⟩ := hs a ha
  rw [e, hn b hb] at he
  cases he
abbrev zKL : List Nat := [0, 3, 2, 1, 100, 114, 113, 112, 111, 110, 116, 115, 109, 108, 106, 105, 104, 103, 102, 101, 200]
def zad0 (f : Nat → Nat) : Nat → Nat → Nat → Nat := fun k i j => if i = 0 ∧ j = 0 then (if k ∈ zKL then f k else 0) else 0
theorem zc0_live {w : zw_W} {f : Nat → Nat} {k i j : Nat} (h : (zc w (zad0 f) zs0 zs0 0 0 k i j).isSome = true) : k ∈ zKL ∧ i = 0 ∧ j = 0 := by
  unfold zc at h
  by_cases h1 : k < 100
  · rw [if_pos h1] at h
    unfold zcC at h
    by_cases h2 : k < 10
    · rw [if_pos h2] at h
      by_cases h3 : i = 0 ∧ j = 0
      · refine ⟨?_, h3⟩
        rw [if_pos h3] at h
        by_cases k0 : k = 0
        · rw [k0]; decide
        · rw [if_neg k0] at h
          by_cases k1 : k = 1
          · rw [k1]; decide
          · rw [if_neg k1] at h
            by_cases k2 : k = 2
            · rw [k2]; decide
            · rw [if_neg k2] at h
              by_cases k3 : k = 3
              · rw [k3]; decide
              · rw [if_neg k3] at h; cases h
      · rw [if_neg h3] at h; cases h
    · rw [if_neg h2] at h
      by_cases h3 : k < 20
      · rw [if_pos h3, if_neg (show ¬ i < zn zs0 from Nat.not_lt_zero i)] at h; cases h
      · rw [if_neg h3, if_neg (show ¬ (i < zg zs0 ∧ j = 0) from fun z => Nat.not_lt_zero i z.1)] at h; cases h
  · rw [if_neg h1] at h
    by_cases h3 : i = 0 ∧ j = 0
    · refine ⟨?_, h3⟩
      rw [if_pos h3] at h
      unfold zcM at h
      by_cases k0 : k = 100
      · rw [k0]; decide
      · rw [if_neg k0] at h
        by_cases k1 : k = 200
        · rw [k1]; decide
        · rw [if_neg k1] at h
          by_cases k2 : 101 ≤ k ∧ k ≤ 116 ∧ k ≠ 107
          · have hc : k = 101 ∨ k = 102 ∨ k = 103 ∨ k = 104 ∨ k = 105 ∨ k = 106 ∨ k = 108 ∨ k = 109 ∨ k = 110 ∨ k = 111 ∨ k = 112 ∨ k = 113 ∨ k = 114 ∨ k = 115 ∨ k = 116 := by omega
            rcases hc with rfl | rfl | rfl | rfl | rfl | rfl | rfl | rfl | rfl | rfl | rfl | rfl | rfl | rfl | rfl <;> decide
          · rw [if_neg k2] at h; cases h
    · rw [if_neg h3] at h; cases h
theorem zad0_k {f : Nat → Nat} {k : Nat} (h : k ∈ zKL) : zad0 f k 0 0 = f k := by
  unfold zad0
  rw [if_pos ⟨rfl, rfl⟩, if_pos h]
theorem zW.first {w : zw_W} {M : zw_M} {f : Nat → Nat} (hn : (zKL.map f).Nodup) (h0 : M (f 0) = some (zw_eC 0 [.ref (f 1), .ref (f 2), .ref (f 3), .int 10])) (h1 : M (f 1) = some (zw_eL 0 (fun _ => 0))) (h2 : M (f 2) = some (zw_eL 0 (fun _ => 0))) (h3 : M (f 3) = some (zw_eI w 7 (fun _ => 0)))
    (h100 : M (f 100) = some (zw_eC 6 [.int 0, .int 0, .ref (f 101), .ref (f 102), .ref (f 103), .ref (f 104), .ref (f 105), .ref (f 106), .int 10, .int 0, .ref (f 108), .ref (f 109), .ref (f 115), .ref (f 116), .ref (f 110), .ref (f 111), .ref (f 112), .ref (f 113), .ref (f 114)]))
    (h101 : M (f 101) = some (zw_eI w 30 (fun _ => 0)))
    (h102 : M (f 102) = some (zw_eI w 30 (fun _ => 0)))
    (h103 : M (f 103) = some (zw_eI w 30 (fun _ => 0)))
    (h104 : M (f 104) = some (zw_eI w 30 (fun _ => 0)))
    (h105 : M (f 105) = some (zw_eI w 210 (fun _ => 0)))
    (h106 : M (f 106) = some (zw_eZ w 210 (fun _ => 0)))
    (h108 : M (f 108) = some (zw_eI w 20 (fun _ => 0)))
    (h109 : M (f 109) = some (zw_eI w 20 (fun _ => 0)))
    (h110 : M (f 110) = some (zw_eI w 20 (fun _ => 0)))
    (h111 : M (f 111) = some (zw_eI w 40 (fun _ => 0)))
    (h112 : M (f 112) = some (zw_eI w 40 (fun _ => 0)))
    (h113 : M (f 113) = some (zw_eZ w 20 (fun _ => 0)))
    (h114 : M (f 114) = some (zw_eI w 7 (fun _ => 0)))
    (h115 : M (f 115) = some (zw_eI w 20 (fun _ => 0)))
    (h116 : M (f 116) = some (zw_eI w 20 (fun _ => 0)))
    (h200 : M (f 200) = some (zw_eJ w 1 (fun _ => 0))) : zW w M (zad0 f) zs0 zs0 0 0 := by
  have K : ∀ k, k ∈ zKL → zad0 f k 0 0 = f k := fun k h => zad0_k h
  refine ⟨fun k i j e he => ?_, fun k i j k' i' j' hs hs' hq => ?_⟩
  · obtain ⟨hk, rfl, rfl⟩ := zc0_live (by rw [he]; rfl)
    rw [K k hk]
    have hc : k = 0 ∨ k = 3 ∨ k = 2 ∨ k = 1 ∨ k = 100 ∨ k = 114 ∨ k = 113 ∨ k = 112 ∨ k = 111 ∨ k = 110 ∨ k = 116 ∨ k = 115 ∨ k = 109 ∨ k = 108 ∨ k = 106 ∨ k = 105 ∨ k = 104 ∨ k = 103 ∨ k = 102 ∨ k = 101 ∨ k = 200 := by simpa [zKL] using hk
    rcases hc with rfl | rfl | rfl | rfl | rfl | rfl | rfl | rfl | rfl | rfl | rfl | rfl | rfl | rfl | rfl | rfl | rfl | rfl | rfl | rfl | rfl
    · have he : some (zw_eC 0 [.ref (zad0 f 1 0 0), .ref (zad0 f 2 0 0), .ref (zad0 f 3 0 0), .int 10]) = some e := he
      rw [K 1 (by decide), K 2 (by decide), K 3 (by decide)] at he
      cases he
      exact h0
    · have he : some (zw_eI w 7 (fun _ => 0)) = some e := he
      cases he
      exact h3
    · have he : some (zw_eL 0 (fun t => zad0 f 20 t 0)) = some e := he
      rw [show (fun t => zad0 f 20 t 0) = (fun _ => 0) from by funext t; unfold zad0; rw [if_neg (show ¬ 20 ∈ zKL by decide)]; exact ite_self _] at he
      cases he
      exact h2
    · have he : some (zw_eL 0 (fun t => zad0 f 10 t 0)) = some e := he
      rw [show (fun t => zad0 f 10 t 0) = (fun _ => 0) from by funext t; unfold zad0; rw [if_neg (show ¬ 10 ∈ zKL by decide)]; exact ite_self _] at he
      cases he
      exact h1
    · have he : some (zw_eC 6 [.int 0, .int 0, .ref (zad0 f 101 0 0), .ref (zad0 f 102 0 0), .ref (zad0 f 103 0 0), .ref (zad0 f 104 0 0), .ref (zad0 f 105 0 0), .ref (zad0 f 106 0 0), .int 10, .int 0, .ref (zad0 f 108 0 0), .ref (zad0 f 109 0 0), .ref (zad0 f 115 0 0), .ref (zad0 f 116 0 0), .ref (zad0 f 110 0 0), .ref (zad0 f 111 0 0), .ref (zad0 f 112 0 0), .ref (zad0 f 113 0 0), .ref (zad0 f 114 0 0)]) = some e := he
      rw [K 101 (by decide), K 102 (by decide), K 103 (by decide), K 104 (by decide), K 105 (by decide), K 106 (by decide), K 108 (by decide), K 109 (by decide), K 115 (by decide), K 116 (by decide), K 110 (by decide), K 111 (by decide), K 112 (by decide), K 113 (by decide), K 114 (by decide)] at he
      cases he
      exact h100
    · have he : some (zw_eI w 7 (fun _ => 0)) = some e := he
      cases he
      exact h114
    · have he : some (zw_eZ w 20 (fun _ => 0)) = some e := he
      cases he
      exact h113
    · have he : some (zw_eI w 40 (fun _ => 0)) = some e := he
      cases he
      exact h112
    · have he : some (zw_eI w 40 (fun _ => 0)) = some e := he
      cases he
      exact h111
    · have he : some (zw_eI w 20 (fun _ => 0)) = some e := he
      cases he
      exact h110
    · have he : some (zw_eI w 20 (fun _ => 0)) = some e := he
      cases he
      exact h116
    · have he : some (zw_eI w 20 (fun _ => 0)) = some e := he
      cases he
      exact h115
    · have he : some (zw_eI w 20 (fun _ => 0)) = some e := he
      cases he
      exact h109
    · have he : some (zw_eI w 20 (fun _ => 0)) = some e := he
      cases he
      exact h108
    · have he : some (zw_eZ w 210 (fun _ => 0)) = some e := he
      cases he
      exact h106
    · have he : some (zw_eI w 210 (fun _ => 0)) = some e := he
      cases he
      exact h105
    · have he : some (zw_eI w 30 (fun _ => 0)) = some e := he
      cases he
      exact h104
    · have he : some (zw_eI w 30 (fun _ => 0)) = some e := he
      cases he
      exact h103
    · have he : some (zw_eI w 30 (fun _ => 0)) = some e := he
      cases he
      exact h102
    · have he : some (zw_eI w 30 (fun _ => 0)) = some e := he
      cases he
      exact h101
    · have he : some (zw_eJ w 1 (zgo 0)) = some e := he
      rw [zgo_0] at he
      cases he
      exact h200
  · obtain ⟨hk, rfl, rfl⟩ := zc0_live hs
    obtain ⟨hk', rfl, rfl⟩ := zc0_live hs'
    rw [K k hk, K k' hk'] at hq
    exact ⟨zinj hn hk hk' hq, rfl, rfl⟩
theorem z31 (x : Int32) : ∃ v : Nat, v < 32 ∧ x &&& 31 = nI v := by
  refine ⟨(x &&& 31).toBitVec.toNat, ?_, ?_⟩
  · have e : (x &&& 31).toBitVec = x.toBitVec &&& 31#32 := rfl
    rw [e, BitVec.toNat_and]
    exact Nat.lt_succ_of_le Nat.and_le_right
  · apply Int32.toBitVec_inj.mp
    show (x &&& 31).toBitVec = BitVec.ofNat 32 (x &&& 31).toBitVec.toNat
    rw [BitVec.ofNat_toNat, BitVec.setWidth_eq]
theorem zgt4 {L i : Nat} (hL : L ≤ 256) (hi : i ≤ 64) : nI L - 4 < nI (4 * i) ↔ L < 4 * i + 4 := by
  have h1 : (nI L - 4).toInt = (L : Int) - 4 := by
    have := pk_sub_toInt (a := L) (b := 4) (by omega) (by decide)
    rw [show nI 4 = 4 by decide] at this
    omega
  rw [Int32.lt_iff_toInt_lt, h1, nI_toInt (by omega)]
  omega
theorem zad_4 (i : Nat) : nI (4 * i) + 4 = nI (4 * (i + 1)) := by rw [show (4 : Int32) = nI 4 by decide, nI_add, Nat.mul_add]
set_option maxHeartbeats 2000000 in
theorem lc_all {X : zw_X} (K : zw_K X cL_law 7 RX0 room_1) {b L : Nat} {xs : Nat → Int32} (hF : zlF X b L xs) {M : zw_M} {c n a0 a1 a2 : Nat} {σ : zS} {th : Int32} {o : Int64} (hw : zWl (zw_Xw X) M a0 a1 a2 σ σ th o) (hI : zI σ) {i : Nat} (hi : 4 * i + 4 ≤ L) (hc : c + 60 ≤ 717834) (hn : n + 2100 ≤ 6846346)
    (kk : ∀ (M' : zw_M) (σ' : zS) (th' : Int32) (o' : Int64), zI σ' → zWl (zw_Xw X) M' a0 a1 a2 σ' σ' th' o' → zw_Z X M' (c + 60) (n + 2100) 1240 [some (.ref b), some (.ref a0), some (.ref a1), some (.ref a2), some (.int (nI (4 * i))), none, none] []) : zw_Z X M c n 32 [some (.ref b), some (.ref a0), some (.ref a1), some (.ref a2), some (.int (nI (4 * i))), none, none] [] := by
  refine zw_aload_n (v := .ref b) (pc' := 33) K dL_law_32 rfl rfl rfl ?_
  refine zw_iload (x := nI (4 * i)) (pc' := 35) K dL_law_33 rfl rfl ?_
  refine zw_sld (j := 4 * i) (pc' := 36) K hF rfl (by omega) dL_law_35 rfl ?_
  refine zw_bipush (v := 31) (pc' := 38) K dL_law_36 (by decide) rfl ?_
  refine zw_iand (pc' := 39) K dL_law_38 rfl ?_
  obtain ⟨v, hv, ev⟩ := z31 (xs (4 * i))
  rw [ev]
  have hcs : v = 0 ∨ v = 1 ∨ v = 2 ∨ v = 3 ∨ v = 4 ∨ v = 5 ∨ v = 6 ∨ v = 7 ∨ v = 8 ∨ v = 9 ∨ v = 10 ∨ v = 11 ∨ v = 12 ∨ v = 13 ∨ v = 14 ∨ v = 15 ∨ v = 16 ∨ v = 17 ∨ 18 ≤ v := by omega
  rcases hcs with rfl | rfl | rfl | rfl | rfl | rfl | rfl | rfl | rfl | rfl | rfl | rfl | rfl | rfl | rfl | rfl | rfl | rfl | hv18
  · exact zw_tabI K dL_law_39 (off := 85) (tgt := 124) (by decide) (by decide) (by decide) (by decide) (lc_open K hF hw hI hi hc hn kk)
  · exact zw_tabI K dL_law_39 (off := 129) (tgt := 168) (by decide) (by decide) (by decide) (by decide) (lc_bid K hF hw hI hi hc hn kk)
  · exact zw_tabI K dL_law_39 (off := 209) (tgt := 248) (by decide) (by decide) (by decide) (by decide) (lc_withdraw K hF hw hI hi hc hn kk)
  · exact zw_tabI K dL_law_39 (off := 277) (tgt := 316) (by decide) (by decide) (by decide) (by decide) (lc_award K hF hw hI hi hc hn kk)
  · exact zw_tabI K dL_law_39 (off := 333) (tgt := 372) (by decide) (by decide) (by decide) (by decide) (lc_passOn K hF hw hI hi hc hn kk)
  · exact zw_tabI K dL_law_39 (off := 413) (tgt := 452) (by decide) (by decide) (by decide) (by decide) (lc_turnover K hF hw hI hi hc hn kk)
  · exact zw_tabI K dL_law_39 (off := 469) (tgt := 508) (by decide) (by decide) (by decide) (by decide) (lc_won K hF hw hI hi hc hn kk)
  · exact zw_tabI K dL_law_39 (off := 525) (tgt := 564) (by decide) (by decide) (by decide) (by decide) (lc_suspicion K hF hw hI hi hc hn kk)
  · exact zw_tabI K dL_law_39 (off := 593) (tgt := 632) (by decide) (by decide) (by decide) (by decide) (lc_sign K hF hw hI hi hc hn kk)
  · exact zw_tabI K dL_law_39 (off := 673) (tgt := 712) (by decide) (by decide) (by decide) (by decide) (lc_setMark K hF hw hI hi hc hn kk)
  · exact zw_tabI K dL_law_39 (off := 729) (tgt := 768) (by decide) (by decide) (by decide) (by decide) (lc_worst K hF hw hI hi hc hn kk)
  · exact zw_tabI K dL_law_39 (off := 742) (tgt := 781) (by decide) (by decide) (by decide) (by decide) (lc_file K hF hw hI hi hc hn kk)
  · exact zw_tabI K dL_law_39 (off := 810) (tgt := 849) (by decide) (by decide) (by decide) (by decide) (lc_matters K hF hw hI hi hc hn kk)
  · exact zw_tabI K dL_law_39 (off := 866) (tgt := 905) (by decide) (by decide) (by decide) (by decide) (lc_tell K hF hw hI hi hc hn kk)
  · exact zw_tabI K dL_law_39 (off := 953) (tgt := 992) (by decide) (by decide) (by decide) (by decide) (lc_compensate K hF hw hI hi hc hn kk)
  · exact zw_tabI K dL_law_39 (off := 1021) (tgt := 1060) (by decide) (by decide) (by decide) (by decide) (lc_close K hF hw hI hi hc hn kk)
  · exact zw_tabI K dL_law_39 (off := 1077) (tgt := 1116) (by decide) (by decide) (by decide) (by decide) (lc_fine K hF hw hI hi hc hn kk)
  · exact zw_tabI K dL_law_39 (off := 1145) (tgt := 1184) (by decide) (by decide) (by decide) (by decide) (lc_firstTeller K hF hw hI hi hc hn kk)
  · exact zw_tabO K dL_law_39 (tgt := 1240) (Or.inr (by rw [nI_toInt (by omega)]; omega)) (by decide) (zw_wide (by omega) (by omega) (kk M σ th o hI hw))

set_option maxHeartbeats 2000000 in
theorem lc_loop {X : zw_X} (K : zw_K X cL_law 7 RX0 room_1) {b L : Nat} {xs : Nat → Int32} (hF : zlF X b L xs) (hret : X.2.2.2.2.2.2.2.2.1.sig.returnType = ret) (hargs : X.2.2.2.2.2.2.1 = #[Value.ref b]) (hQ : X.2.2.2.2.2.2.2.2.2.2.1 = lw_Z X.2.2.2.2.2.2.2.1 #[Value.ref b] X.2.2.2.2.1) (hB : zw_B (zw_Xw X) = X.2.2.2.2.1.heap.size) {a0 a1 a2 : Nat} :
    ∀ i : Nat, i ≤ L / 4 → ∀ (M : zw_M) (σ : zS) (th : Int32) (o : Int64), zI σ → zWl (zw_Xw X) M a0 a1 a2 σ σ th o → zw_Z X M (100 + 60 * i) (2000 + 2100 * i) 23 [some (.ref b), some (.ref a0), some (.ref a1), some (.ref a2), some (.int (nI (4 * i))), none, none] [] := by
  have hL := hF.2.2.2
  refine zl_up (fun i hi ih => ?_)
  intro M σ th o hI hw
  refine zw_iload (x := nI (4 * i)) (pc' := 25) K dL_law_23 rfl rfl ?_
  refine zw_aload_n (v := .ref b) (pc' := 26) K dL_law_25 rfl rfl rfl ?_
  refine zw_slen (pc' := 27) K hF dL_law_26 rfl ?_
  refine zw_iconst (v := 4) (pc' := 28) K dL_law_27 (by decide) rfl ?_
  refine zw_isub (pc' := 29) K dL_law_28 rfl ?_
  refine zw_icmp_gt (tgt := 1246) (pc' := 32) K dL_law_29 (by decide) rfl (fun hgt => ?_) (fun hgt => ?_)
  · refine zw_iconst (v := 1) (pc' := 1247) K dL_law_1246 (by decide) rfl ?_
    exact zw_lend K hret hargs hQ hB ⟨by omega, by omega⟩ dL_law_1247
  · rw [zgt4 hL (by omega)] at hgt
    refine lc_all K hF hw hI (by omega) (by omega) (by omega) (fun M' σ' th' o' hI' hw' => ?_)
    refine zw_iinc (x := nI (4 * i)) (lv' := [some (.ref b), some (.ref a0), some (.ref a1), some (.ref a2), some (.int (nI (4 * i) + 4)), none, none]) (pc' := 1243) K dL_law_1240 rfl (by decide) rfl rfl ?_
    refine zw_goto (tgt := 23) K dL_law_1243 (by decide) ?_
    rw [zad_4]
    exact zw_wide (by omega) (by omega) (ih (by omega) M' σ' th' o' hI' hw')
set_option maxHeartbeats 4000000 in
theorem lc_start {X : zw_X} (K : zw_K X cL_law 7 RX0 room_1) {b L : Nat} {xs : Nat → Int32} (hF : zlF X b L xs) (hret : X.2.2.2.2.2.2.2.2.1.sig.returnType = ret) (hargs : X.2.2.2.2.2.2.1 = #[Value.ref b]) (hQ : X.2.2.2.2.2.2.2.2.2.2.1 = lw_Z X.2.2.2.2.2.2.2.1 #[Value.ref b] X.2.2.2.2.1) (hB : zw_B (zw_Xw X) = X.2.2.2.2.1.heap.size) (M : zw_M) :
    zw_Z X M 0 0 0 [some (.ref b), none, none, none, none, none, none] [] := by
  have hl : (zw_Xl X).stackTraces = false := K.2.2.2.2.2.2.2.2
  refine zw_new (c' := 1) (n' := 4) (pc' := 3) (fs := [.null, .null, .null, .int 0]) K in_X1 (ci := 0) rfl tyX1 tyX1_ok q46 q47 q22 (by decide +kernel) ⟨Nat.le_of_ble_eq_true rfl, Nat.le_of_ble_eq_true rfl, Nat.le_of_ble_eq_true rfl, Nat.le_of_ble_eq_true rfl⟩ dL_law_0 rfl (fun a0 ha0 => ?_)
  refine zw_nmM (fun M1 eM1 => ?_)
  have f2 : M1 a0 = some (zw_eC 0 [.null, .null, .null, .int 0]) := by rw [eM1]; exact zw_us
  refine zw_dup (pc' := 4) K dL_law_3 rfl rfl ?_
  refine zc_X0_71 (rest := [.ref a0]) (c' := 4) (n' := 17) (pc' := 7) K (ct_X1_init hl 0 M1 a0 f2) rfl rfl dL_law_4 rfl (Nat.le_of_ble_eq_true rfl) ⟨Nat.le_of_ble_eq_true rfl, Nat.le_of_ble_eq_true rfl⟩ ⟨Nat.le_of_ble_eq_true rfl, Nat.le_of_ble_eq_true rfl, Nat.le_of_ble_eq_true rfl, Nat.le_of_ble_eq_true rfl⟩ (zw_kv fun Ma h => ?_) zw_kn
  obtain ⟨q1, q9, q17, b1, b2, b3, b4⟩ := h
  have g17 := b3 _ List.mem_cons_self
  have g9 := b3 _ (List.mem_cons_of_mem _ List.mem_cons_self)
  have g1 := b3 _ (List.mem_cons_of_mem _ (List.mem_cons_of_mem _ List.mem_cons_self))
  refine zw_astore_n (lv' := [some (.ref b), some (.ref a0), none, none, none, none, none]) (pc' := 8) K dL_law_7 rfl (by decide) rfl rfl ?_
  refine zw_new (c' := 5) (n' := 36) (pc' := 11) (fs := [.int 0, .int 0, .null, .null, .null, .null, .null, .null, .int 0, .int 0, .null, .null, .null, .null, .null, .null, .null, .null, .null]) K in_X2 (ci := 6) rfl tyX2 tyX2_ok q670 q671 q26 (by decide +kernel) ⟨Nat.le_of_ble_eq_true rfl, Nat.le_of_ble_eq_true rfl, Nat.le_of_ble_eq_true rfl, Nat.le_of_ble_eq_true rfl⟩ dL_law_8 rfl (fun a1 ha1 => ?_)
  refine zw_nmM (fun M3 eM3 => ?_)
  have f4 : M3 a0 = some (zw_eC 0 [.ref q1, .ref q9, .ref q17, .int 10]) := by rw [eM3]; exact zw_un' (zw_nn b1 ha1) b1
  have f5 : M3 q1 = some (zw_eL 0 (fun _ => 0)) := by rw [eM3]; exact zw_un' (zw_nn g1.2.2 ha1) g1.2.2
  have f6 : M3 q9 = some (zw_eL 0 (fun _ => 0)) := by rw [eM3]; exact zw_un' (zw_nn g9.2.2 ha1) g9.2.2
  have f7 : M3 q17 = some (zw_eI (zw_Xw X) 7 (fun _ => 0)) := by rw [eM3]; exact zw_un' (zw_nn g17.2.2 ha1) g17.2.2
  have f8 : M3 a1 = some (zw_eC 6 [.int 0, .int 0, .null, .null, .null, .null, .null, .null, .int 0, .int 0, .null, .null, .null, .null, .null, .null, .null, .null, .null]) := by rw [eM3]; exact zw_us
  refine zw_dup (pc' := 12) K dL_law_11 rfl rfl ?_
  refine zc_X0_74 (rest := [.ref a1]) (c' := 20) (n' := 783) (pc' := 15) K (ct_X2_init hl M3 a1 f8) rfl rfl dL_law_12 rfl (Nat.le_of_ble_eq_true rfl) ⟨Nat.le_of_ble_eq_true rfl, Nat.le_of_ble_eq_true rfl⟩ ⟨Nat.le_of_ble_eq_true rfl, Nat.le_of_ble_eq_true rfl, Nat.le_of_ble_eq_true rfl, Nat.le_of_ble_eq_true rfl⟩ (zw_kv fun Mb h => ?_) zw_kn
  obtain ⟨p1, p6, p11, p16, p21, p26, p33, p38, p43, p48, p53, p58, p63, p68, p73, d1, d2, d3, d4⟩ := h
  have k73 := d3 _ (List.mem_cons_self)
  have k68 := d3 _ (List.mem_cons_of_mem _ (List.mem_cons_self))
  have k63 := d3 _ (List.mem_cons_of_mem _ (List.mem_cons_of_mem _ (List.mem_cons_self)))
  have k58 := d3 _ (List.mem_cons_of_mem _ (List.mem_cons_of_mem _ (List.mem_cons_of_mem _ (List.mem_cons_self))))
  have k53 := d3 _ (List.mem_cons_of_mem _ (List.mem_cons_of_mem _ (List.mem_cons_of_mem _ (List.mem_cons_of_mem _ (List.mem_cons_self)))))
  have k48 := d3 _ (List.mem_cons_of_mem _ (List.mem_cons_of_mem _ (List.mem_cons_of_mem _ (List.mem_cons_of_mem _ (List.mem_cons_of_mem _ (List.mem_cons_self))))))
  have k43 := d3 _ (List.mem_cons_of_mem _ (List.mem_cons_of_mem _ (List.mem_cons_of_mem _ (List.mem_cons_of_mem _ (List.mem_cons_of_mem _ (List.mem_cons_of_mem _ (List.mem_cons_self)))))))
  have k38 := d3 _ (List.mem_cons_of_mem _ (List.mem_cons_of_mem _ (List.mem_cons_of_mem _ (List.mem_cons_of_mem _ (List.mem_cons_of_mem _ (List.mem_cons_of_mem _ (List.mem_cons_of_mem _ (List.mem_cons_self))))))))
  have k33 := d3 _ (List.mem_cons_of_mem _ (List.mem_cons_of_mem _ (List.mem_cons_of_mem _ (List.mem_cons_of_mem _ (List.mem_cons_of_mem _ (List.mem_cons_of_mem _ (List.mem_cons_of_mem _ (List.mem_cons_of_mem _ (List.mem_cons_self)))))))))
  have k26 := d3 _ (List.mem_cons_of_mem _ (List.mem_cons_of_mem _ (List.mem_cons_of_mem _ (List.mem_cons_of_mem _ (List.mem_cons_of_mem _ (List.mem_cons_of_mem _ (List.mem_cons_of_mem _ (List.mem_cons_of_mem _ (List.mem_cons_of_mem _ (List.mem_cons_self))))))))))
  have k21 := d3 _ (List.mem_cons_of_mem _ (List.mem_cons_of_mem _ (List.mem_cons_of_mem _ (List.mem_cons_of_mem _ (List.mem_cons_of_mem _ (List.mem_cons_of_mem _ (List.mem_cons_of_mem _ (List.mem_cons_of_mem _ (List.mem_cons_of_mem _ (List.mem_cons_of_mem _ (List.mem_cons_self)))))))))))
  have k16 := d3 _ (List.mem_cons_of_mem _ (List.mem_cons_of_mem _ (List.mem_cons_of_mem _ (List.mem_cons_of_mem _ (List.mem_cons_of_mem _ (List.mem_cons_of_mem _ (List.mem_cons_of_mem _ (List.mem_cons_of_mem _ (List.mem_cons_of_mem _ (List.mem_cons_of_mem _ (List.mem_cons_of_mem _ (List.mem_cons_self))))))))))))
  have k11 := d3 _ (List.mem_cons_of_mem _ (List.mem_cons_of_mem _ (List.mem_cons_of_mem _ (List.mem_cons_of_mem _ (List.mem_cons_of_mem _ (List.mem_cons_of_mem _ (List.mem_cons_of_mem _ (List.mem_cons_of_mem _ (List.mem_cons_of_mem _ (List.mem_cons_of_mem _ (List.mem_cons_of_mem _ (List.mem_cons_of_mem _ (List.mem_cons_self)))))))))))))
  have k6 := d3 _ (List.mem_cons_of_mem _ (List.mem_cons_of_mem _ (List.mem_cons_of_mem _ (List.mem_cons_of_mem _ (List.mem_cons_of_mem _ (List.mem_cons_of_mem _ (List.mem_cons_of_mem _ (List.mem_cons_of_mem _ (List.mem_cons_of_mem _ (List.mem_cons_of_mem _ (List.mem_cons_of_mem _ (List.mem_cons_of_mem _ (List.mem_cons_of_mem _ (List.mem_cons_self))))))))))))))
  have k1 := d3 _ (List.mem_cons_of_mem _ (List.mem_cons_of_mem _ (List.mem_cons_of_mem _ (List.mem_cons_of_mem _ (List.mem_cons_of_mem _ (List.mem_cons_of_mem _ (List.mem_cons_of_mem _ (List.mem_cons_of_mem _ (List.mem_cons_of_mem _ (List.mem_cons_of_mem _ (List.mem_cons_of_mem _ (List.mem_cons_of_mem _ (List.mem_cons_of_mem _ (List.mem_cons_of_mem _ (List.mem_cons_self)))))))))))))))
  have u_a0 := d2 a0 _ (zw_nn b1 ha1) f4
  have u_q1 := d2 q1 _ (zw_nn g1.2.2 ha1) f5
  have u_q9 := d2 q9 _ (zw_nn g9.2.2 ha1) f6
  have u_q17 := d2 q17 _ (zw_nn g17.2.2 ha1) f7
  refine zw_astore_n (lv' := [some (.ref b), some (.ref a0), some (.ref a1), none, none, none, none]) (pc' := 16) K dL_law_15 rfl (by decide) rfl rfl ?_
  refine zw_iconst (v := 1) (pc' := 17) K dL_law_16 (by decide) rfl ?_
  refine zw_newa (atype := .long) (t0 := 2) (N' := 1) (a0 := (1, .inr (.inl (fun _ => 0)))) (c' := 21) (n' := 784) (pc' := 19) K q872 rfl rfl (fun _ _ h => h) (fun _ => rfl) (by decide) (by decide) (by decide) ⟨Nat.le_of_ble_eq_true rfl, Nat.le_of_ble_eq_true rfl, Nat.le_of_ble_eq_true rfl, Nat.le_of_ble_eq_true rfl⟩ dL_law_17 rfl (fun a2 ha2 => ?_)
  refine zw_nmM (fun M9 eM9 => ?_)
  have f10 : M9 a0 = some (zw_eC 0 [.ref q1, .ref q9, .ref q17, .int 10]) := by rw [eM9]; exact zw_un' (zw_nn u_a0 ha2) u_a0
  have f11 : M9 q1 = some (zw_eL 0 (fun _ => 0)) := by rw [eM9]; exact zw_un' (zw_nn u_q1 ha2) u_q1
  have f12 : M9 q9 = some (zw_eL 0 (fun _ => 0)) := by rw [eM9]; exact zw_un' (zw_nn u_q9 ha2) u_q9
  have f13 : M9 q17 = some (zw_eI (zw_Xw X) 7 (fun _ => 0)) := by rw [eM9]; exact zw_un' (zw_nn u_q17 ha2) u_q17
  have f14 : M9 a1 = some (zw_eC 6 [.int 0, .int 0, .ref p1, .ref p6, .ref p11, .ref p16, .ref p21, .ref p26, .int 10, .int 0, .ref p33, .ref p38, .ref p43, .ref p48, .ref p53, .ref p58, .ref p63, .ref p68, .ref p73]) := by rw [eM9]; exact zw_un' (zw_nn d1 ha2) d1
  have f15 : M9 p1 = some (zw_eI (zw_Xw X) 30 (fun _ => 0)) := by rw [eM9]; exact zw_un' (zw_nn k1.2.2 ha2) k1.2.2
  have f16 : M9 p6 = some (zw_eI (zw_Xw X) 30 (fun _ => 0)) := by rw [eM9]; exact zw_un' (zw_nn k6.2.2 ha2) k6.2.2
  have f17 : M9 p11 = some (zw_eI (zw_Xw X) 30 (fun _ => 0)) := by rw [eM9]; exact zw_un' (zw_nn k11.2.2 ha2) k11.2.2
  have f18 : M9 p16 = some (zw_eI (zw_Xw X) 30 (fun _ => 0)) := by rw [eM9]; exact zw_un' (zw_nn k16.2.2 ha2) k16.2.2
  have f19 : M9 p21 = some (zw_eI (zw_Xw X) 210 (fun _ => 0)) := by rw [eM9]; exact zw_un' (zw_nn k21.2.2 ha2) k21.2.2
  have f20 : M9 p26 = some (zw_eZ (zw_Xw X) 210 (fun _ => 0)) := by rw [eM9]; exact zw_un' (zw_nn k26.2.2 ha2) k26.2.2
  have f21 : M9 p33 = some (zw_eI (zw_Xw X) 20 (fun _ => 0)) := by rw [eM9]; exact zw_un' (zw_nn k33.2.2 ha2) k33.2.2
  have f22 : M9 p38 = some (zw_eI (zw_Xw X) 20 (fun _ => 0)) := by rw [eM9]; exact zw_un' (zw_nn k38.2.2 ha2) k38.2.2
  have f23 : M9 p43 = some (zw_eI (zw_Xw X) 20 (fun _ => 0)) := by rw [eM9]; exact zw_un' (zw_nn k43.2.2 ha2) k43.2.2
  have f24 : M9 p48 = some (zw_eI (zw_Xw X) 20 (fun _ => 0)) := by rw [eM9]; exact zw_un' (zw_nn k48.2.2 ha2) k48.2.2
  have f25 : M9 p53 = some (zw_eI (zw_Xw X) 20 (fun _ => 0)) := by rw [eM9]; exact zw_un' (zw_nn k53.2.2 ha2) k53.2.2
  have f26 : M9 p58 = some (zw_eI (zw_Xw X) 40 (fun _ => 0)) := by rw [eM9]; exact zw_un' (zw_nn k58.2.2 ha2) k58.2.2
  have f27 : M9 p63 = some (zw_eI (zw_Xw X) 40 (fun _ => 0)) := by rw [eM9]; exact zw_un' (zw_nn k63.2.2 ha2) k63.2.2
  have f28 : M9 p68 = some (zw_eZ (zw_Xw X) 20 (fun _ => 0)) := by rw [eM9]; exact zw_un' (zw_nn k68.2.2 ha2) k68.2.2
  have f29 : M9 p73 = some (zw_eI (zw_Xw X) 7 (fun _ => 0)) := by rw [eM9]; exact zw_un' (zw_nn k73.2.2 ha2) k73.2.2
  have f30 : M9 a2 = some (zw_eJ (zw_Xw X) 1 (fun _ => 0)) := by rw [eM9]; exact zw_us
  refine zw_astore_n (lv' := [some (.ref b), some (.ref a0), some (.ref a1), some (.ref a2), none, none, none]) (pc' := 20) K dL_law_19 rfl (by decide) rfl rfl ?_
  refine zw_iconst (v := 0) (pc' := 21) K dL_law_20 (by decide) rfl ?_
  refine zw_istore (lv' := [some (.ref b), some (.ref a0), some (.ref a1), some (.ref a2), some (.int 0), none, none]) (pc' := 23) K dL_law_21 (by decide) rfl rfl ?_
  have hn0 : [a0, q17, q9, q1].Nodup := by
    refine znd_app (M := M1) (l1 := [a0]) (l2 := [q17, q9, q1]) (List.nodup_cons.mpr ⟨List.not_mem_nil, List.nodup_nil⟩) (fun x hx => ?_) b4 (fun x hx => ?_)
    · rw [List.mem_singleton] at hx; subst hx; exact ⟨_, f2⟩
    · simp only [List.mem_cons, List.not_mem_nil, or_false] at hx; rcases hx with rfl | rfl | rfl; exact g17.1; exact g9.1; exact g1.1
  have hn1 : ([a0, q17, q9, q1] ++ [a1]).Nodup := by
    refine znd_app (M := Ma) hn0 (fun x hx => ?_) (List.nodup_cons.mpr ⟨List.not_mem_nil, List.nodup_nil⟩) (fun x hx => ?_)
    · simp only [List.mem_cons, List.not_mem_nil, or_false] at hx; rcases hx with rfl | rfl | rfl | rfl; exact ⟨_, b1⟩; exact ⟨_, g17.2.2⟩; exact ⟨_, g9.2.2⟩; exact ⟨_, g1.2.2⟩
    · rw [List.mem_singleton] at hx; subst hx; exact ha1
  have hn2 : (([a0, q17, q9, q1] ++ [a1]) ++ [p73, p68, p63, p58, p53, p48, p43, p38, p33, p26, p21, p16, p11, p6, p1]).Nodup := by
    refine znd_app (M := M3) hn1 (fun x hx => ?_) d4 (fun x hx => ?_)
    · simp only [List.cons_append, List.nil_append, List.mem_cons, List.not_mem_nil, or_false] at hx; rcases hx with rfl | rfl | rfl | rfl | rfl; exact ⟨_, f4⟩; exact ⟨_, f7⟩; exact ⟨_, f6⟩; exact ⟨_, f5⟩; exact ⟨_, f8⟩
    · simp only [List.mem_cons, List.not_mem_nil, or_false] at hx; rcases hx with rfl | rfl | rfl | rfl | rfl | rfl | rfl | rfl | rfl | rfl | rfl | rfl | rfl | rfl | rfl; exact k73.1; exact k68.1; exact k63.1; exact k58.1; exact k53.1; exact k48.1; exact k43.1; exact k38.1; exact k33.1; exact k26.1; exact k21.1; exact k16.1; exact k11.1; exact k6.1; exact k1.1
  have hn3 : ((([a0, q17, q9, q1] ++ [a1]) ++ [p73, p68, p63, p58, p53, p48, p43, p38, p33, p26, p21, p16, p11, p6, p1]) ++ [a2]).Nodup := by
    refine znd_app (M := Mb) hn2 (fun x hx => ?_) (List.nodup_cons.mpr ⟨List.not_mem_nil, List.nodup_nil⟩) (fun x hx => ?_)
    · simp only [List.cons_append, List.nil_append, List.mem_cons, List.not_mem_nil, or_false] at hx; rcases hx with rfl | rfl | rfl | rfl | rfl | rfl | rfl | rfl | rfl | rfl | rfl | rfl | rfl | rfl | rfl | rfl | rfl | rfl | rfl | rfl; exact ⟨_, u_a0⟩; exact ⟨_, u_q17⟩; exact ⟨_, u_q9⟩; exact ⟨_, u_q1⟩; exact ⟨_, d1⟩; exact ⟨_, k73.2.2⟩; exact ⟨_, k68.2.2⟩; exact ⟨_, k63.2.2⟩; exact ⟨_, k58.2.2⟩; exact ⟨_, k53.2.2⟩; exact ⟨_, k48.2.2⟩; exact ⟨_, k43.2.2⟩; exact ⟨_, k38.2.2⟩; exact ⟨_, k33.2.2⟩; exact ⟨_, k26.2.2⟩; exact ⟨_, k21.2.2⟩; exact ⟨_, k16.2.2⟩; exact ⟨_, k11.2.2⟩; exact ⟨_, k6.2.2⟩; exact ⟨_, k1.2.2⟩
    · rw [List.mem_singleton] at hx; subst hx; exact ha2
  have hfirst : zW (zw_Xw X) M9 (zad0 (fun k => if k = 0 then a0 else if k = 1 then q1 else if k = 2 then q9 else if k = 3 then q17 else if k = 100 then a1 else if k = 101 then p1 else if k = 102 then p6 else if k = 103 then p11 else if k = 104 then p16 else if k = 105 then p21 else if k = 106 then p26 else if k = 108 then p33 else if k = 109 then p38 else if k = 110 then p53 else if k = 111 then p58 else if k = 112 then p63 else if k = 113 then p68 else if k = 114 then p73 else if k = 115 then p43 else if k = 116 then p48 else if k = 200 then a2 else 0)) zs0 zs0 0 0 := zW.first (f := fun k => if k = 0 then a0 else if k = 1 then q1 else if k = 2 then q9 else if k = 3 then q17 else if k = 100 then a1 else if k = 101 then p1 else if k = 102 then p6 else if k = 103 then p11 else if k = 104 then p16 else if k = 105 then p21 else if k = 106 then p26 else if k = 108 then p33 else if k = 109 then p38 else if k = 110 then p53 else if k = 111 then p58 else if k = 112 then p63 else if k = 113 then p68 else if k = 114 then p73 else if k = 115 then p43 else if k = 116 then p48 else if k = 200 then a2 else 0) hn3 f10 f11 f12 f13 f14 f15 f16 f17 f18 f19 f20 f21 f22 f25 f26 f27 f28 f29 f23 f24 f30
  refine zw_wide (c' := 100 + 60 * 0) (n' := 2000 + 2100 * 0) (by omega) (by omega) ?_
  exact lc_loop K hF hret hargs hQ hB 0 (Nat.zero_le _) M9 zs0 0 0 zI0 ⟨_, zad0_k (by decide), zad0_k (by decide), zad0_k (by decide), hfirst⟩
set_option maxHeartbeats 4000000 in
theorem whole_start {p : Program} {e : Env} {s : State} {m : MethodId} {below : List Frame} {meth : Method} {c : Code} (l : Launch) (hflags : l.flags = flags0) {b L : Nat} {xs : Nat → Int32} (hL : L ≤ 256) (C0 : lw_At p s m meth c b L xs) : W p l e room_1 s m #[Value.ref b] below meth c s.heap [] 0 0 (lw_Z below #[Value.ref b] s) (entryFrame m ([Value.ref b] : List Value).toArray 7) := by
  obtain ⟨hx, hb, hr, hml, hown, hts, hX, hbl, hlocks, hgv⟩ := id C0
  have hst : l.stackTraces = false := by unfold Launch.stackTraces; rw [hflags]; decide
  obtain ⟨w, hB, hT⟩ := zw_T0 hts hgv
  have hbA : ¬ zw_A w b := by show ¬ zw_B w ≤ b; rw [hB]; exact Nat.not_le.mpr hbl
  have hb2 := lc_start (X := (p, l, e, room_1, s, m, #[Value.ref b], below, meth, c, lw_Z below #[Value.ref b] s, w)) ⟨hx, hb, hml, hown, fun q hq => hts q (lw_all_tbl hq), rfl, hlocks, hT, hst⟩ (b := b) (L := L) (xs := xs) ⟨hX, hbl, hbA, hL⟩ hr rfl rfl hB (fun _ => none)
  rw [lg_entry_eq]
  refine hb2 s.heap [] _ ?_ va_S.rf ?_
  · exact ⟨[], fun _ => 0, fun k q h => by simp at h, ⟨fun i j p q h => by simp at h, fun k q h => by simp at h⟩, ⟨(fun a e h => nomatch h), (fun l n el h => nomatch h), (fun l n el h => nomatch h)⟩⟩
  · show zw_L _ c.maxLocals _
    rw [hml]
    exact zw_L0 [.ref b] (by simp [Value.category]) (Nat.le_of_ble_eq_true rfl)
