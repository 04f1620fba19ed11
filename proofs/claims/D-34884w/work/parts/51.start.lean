/-! what holds of the machine at the law's start -/
set_option maxRecDepth 100000
theorem zw_nw_on {q : Cond} (h : zw_nw q = true) : q.onTables = true := by
  cases q <;> first | rfl | (simp [zw_nw] at h)
theorem zt_arr {s : State} {args : Array Value} {ty : FieldType} (h : (Cond.arrayClass ty).before args s = true) : ∃ c : ClassId, ArrOfT s c ty ∧ s.vm.findClass ("[" ++ ty.toString) = some c := by
  obtain ⟨c, k, comp, h1, h2, h3⟩ := Cond.arrayClass_spec h
  exact ⟨c, fun n z => ⟨fun k h => (by cases h), k, h2, comp, h3⟩, h1⟩
theorem zt_arrO {s : State} {args : Array Value} {C : String} (h : (Cond.arrayOver (.object C)).before args s = true) : ∃ c : ClassId, ArrOfT s c (.object C) ∧ va_RA s c (.object C) := by
  obtain ⟨comp, c, k, h1, h2, h3, h4, h5⟩ := Cond.arrayOver_spec h
  exact ⟨c, fun n z => ⟨fun k h => (by cases h), k, h3, comp, h4⟩, k, comp, h3, h4, h1, h5⟩
theorem zt_str {s : State} {args : Array Value} {k : Nat} {tx : String} (h1 : (Cond.stringRef "CartelWatch" k tx).before args s = true) (h2 : (Cond.exactly (.string "CartelWatch" k) "java/lang/String").before args s = true) : ∃ a : Nat, vk_R "CartelWatch" k tx a s := by
  obtain ⟨a, c, cell, k9, e1, -⟩ := Cond.exactly_spec h2
  exact ⟨a, vk_R.of h1 e1⟩
set_option maxHeartbeats 4000000 in
theorem zw_T0 {s : State} {b : Nat} (hts : ∀ w ∈ lw_tbl, w.before #[Value.ref b] s = true) (hgv : (Jvm.Cond.and given_1 narrow_1).before #[Value.ref b] s = true) : ∃ w : zw_W, zw_B w = s.heap.size ∧ zw_T w s := by
  have hs := flat_of_before _ hgv
  obtain ⟨c0, i0, hK0⟩ := u_known (C := RX1) (T := TX1) (N := 4) (n := 4) hts (fun w h => lw_all_tbl (in_X1 w h)) (hts _ (lw_all_tbl q47))
  obtain ⟨c1, i1, hK1⟩ := u_known (C := RX3) (T := TX3) (N := 5) (n := 5) hts (fun w h => lw_all_tbl (in_X3 w h)) (hts _ (lw_all_tbl q267))
  obtain ⟨c2, i2, hK2⟩ := u_known (C := RX4) (T := TX4) (N := 2) (n := 2) hts (fun w h => lw_all_tbl (in_X4 w h)) (hts _ (lw_all_tbl q426))
  obtain ⟨c3, i3, hK3⟩ := u_known (C := RX5) (T := TX5) (N := 2) (n := 2) hts (fun w h => lw_all_tbl (in_X5 w h)) (hts _ (lw_all_tbl q99))
  obtain ⟨c4, i4, hK4⟩ := u_known (C := RX6) (T := TX6) (N := 7) (n := 7) hts (fun w h => lw_all_tbl (in_X6 w h)) (hts _ (lw_all_tbl q537))
  obtain ⟨c5, i5, hK5⟩ := u_known (C := RJ2) (T := TJ2) (N := 3) (n := 3) hts (fun w h => lw_all_tbl (in_J2 w h)) (hts _ (lw_all_tbl q55))
  obtain ⟨c6, i6, hK6⟩ := u_known (C := RX2) (T := TX2) (N := 19) (n := 19) hts (fun w h => lw_all_tbl (in_X2 w h)) (hts _ (lw_all_tbl q671))
  obtain ⟨a0, r0, f0⟩ := zt_arr (ty := .int) (hts _ (lw_all_tbl q93))
  obtain ⟨a1, r1, f1⟩ := zt_arr (ty := .boolean) (hts _ (lw_all_tbl q734))
  obtain ⟨a2, r2, f2⟩ := zt_arr (ty := .long) (hts _ (lw_all_tbl q872))
  obtain ⟨a3, r3, f3⟩ := zt_arrO (C := "java/lang/Object") (hts _ q346)
  obtain ⟨a4, r4, f4⟩ := zt_arrO (C := "CartelWatch$Bid") (hts _ q273)
  have hA : ∀ a : Nat, a < s.heap.size → ¬ s.heap.size ≤ a := fun a h => Nat.not_le.mpr h
  obtain ⟨a5, e5, t5⟩ := va_Tof (A := fun q => s.heap.size ≤ q) (tm := .static "java/util/ArrayList" "DEFAULTCAPACITY_EMPTY_ELEMENTDATA" "[Ljava/lang/Object;") (ty := .object "java/lang/Object") (N := 0) (f := fun _ => .null) (by decide) (hs _ (by decide +kernel)) (va_eqt (z := 0) (hs _ (by decide +kernel))) (fun j hj => absurd hj (Nat.not_lt_zero j)) hA
  have z5 : va_Z "java/util/ArrayList" "DEFAULTCAPACITY_EMPTY_ELEMENTDATA" "[Ljava/lang/Object;" (.ref a5) (fun q => s.heap.size ≤ q) s s.heap := va_Zref (hts _ q67) (hts _ (lw_all_tbl q25)) e5 hA
  obtain ⟨a6, m6⟩ := va_Mi.of (C := "[Ljava/lang/Object;") (hs _ (by decide +kernel))
  obtain ⟨a7, x0⟩ := zt_str (k := 45) (tx := "out of range") (hts _ q417) (hs _ (by decide +kernel))
  obtain ⟨a8, x1⟩ := zt_str (k := 58) (tx := "the same bidder") (hts _ q512) (hs _ (by decide +kernel))
  obtain ⟨a9, x2⟩ := zt_str (k := 67) (tx := "no such thing") (hts _ q398) (hs _ (by decide +kernel))
  obtain ⟨a10, x3⟩ := zt_str (k := 72) (tx := "not now") (hts _ q240) (hs _ (by decide +kernel))
  obtain ⟨a11, x4⟩ := zt_str (k := 125) (tx := "the winner") (hts _ q467) (hs _ (by decide +kernel))
  obtain ⟨a12, x5⟩ := zt_str (k := 187) (tx := "none of the pair") (hts _ q589) (hs _ (by decide +kernel))
  obtain ⟨a20, y0⟩ := zw_lam.of (x := (zw_sites[0]'(by decide)).1) (pc := (zw_sites[0]'(by decide)).2.1) (index := (zw_sites[0]'(by decide)).2.2.1) (σ := zw_s0) (s := s) (by decide) (hs _ (by decide +kernel))
  obtain ⟨a21, y1⟩ := zw_lam.of (x := (zw_sites[1]'(by decide)).1) (pc := (zw_sites[1]'(by decide)).2.1) (index := (zw_sites[1]'(by decide)).2.2.1) (σ := zw_s1) (s := s) (by decide) (hs _ (by decide +kernel))
  obtain ⟨a22, y2⟩ := zw_lam.of (x := (zw_sites[2]'(by decide)).1) (pc := (zw_sites[2]'(by decide)).2.1) (index := (zw_sites[2]'(by decide)).2.2.1) (σ := zw_s2) (s := s) (by decide) (hs _ (by decide +kernel))
  refine ⟨(s.heap.size, (fun k => if k = 0 then c0 else if k = 1 then c1 else if k = 2 then c2 else if k = 3 then c3 else if k = 4 then c4 else if k = 5 then c5 else c6, fun k => if k = 0 then i0 else if k = 1 then i1 else if k = 2 then i2 else if k = 3 then i3 else if k = 4 then i4 else if k = 5 then i5 else i6), fun k => if k = 0 then a0 else if k = 1 then a1 else if k = 2 then a2 else if k = 3 then a3 else if k = 4 then a4 else if k = 5 then a5 else if k = 6 then a6 else if k = 7 then a7 else if k = 8 then a8 else if k = 9 then a9 else if k = 10 then a10 else if k = 11 then a11 else if k = 12 then a12 else if k = 20 then a20 else if k = 21 then a21 else if k = 22 then a22 else 0), rfl, ⟨fun k q hq => ?_, fun k q hq => ?_⟩, ⟨z5, t5⟩, ⟨vx_Zqof (hts _ q225) (hts _ (lw_all_tbl q27)) (hs _ (by decide +kernel)) hA, vx_Zqof (hts _ q227) (hts _ (lw_all_tbl q27)) (hs _ (by decide +kernel)) hA⟩, m6, fun i q hq => ?_, fun q hq hn => va_Nw.of (zw_nw_on hn) (hts q hq), fun q hq => ?_, ⟨va_AO.of (hts _ q273), va_AO.of (hts _ q346), ⟨va_Nw.use rfl (va_Nw.of rfl (hts _ q492)), va_Nw.use rfl (va_Nw.of rfl (hts _ q491))⟩, fun i q hq => ?_⟩, ⟨?_, ?_, ?_, ?_⟩, Nat.le_refl _⟩
  · match k, hq with
    | 0, hq => cases hq; exact hK0
    | 1, hq => cases hq; exact hK1
    | 2, hq => cases hq; exact hK2
    | 3, hq => cases hq; exact hK3
    | 4, hq => cases hq; exact hK4
    | 5, hq => cases hq; exact hK5
    | 6, hq => cases hq; exact hK6
    | k + 7, hq => simp [zw_cl] at hq
  · match k, hq with
    | 0, hq => cases hq; exact ⟨r0, f0⟩
    | 1, hq => cases hq; exact ⟨r1, f1⟩
    | 2, hq => cases hq; exact ⟨r2, f2⟩
    | 3, hq => cases hq; exact ⟨r3, f3⟩
    | 4, hq => cases hq; exact ⟨r4, f4⟩
    | k + 5, hq => simp [zw_ty] at hq
  · match i, hq with
    | 0, hq => cases hq; exact x0
    | 1, hq => cases hq; exact x1
    | 2, hq => cases hq; exact x2
    | 3, hq => cases hq; exact x3
    | 4, hq => cases hq; exact x4
    | 5, hq => cases hq; exact x5
    | i + 6, hq => simp [zw_txt] at hq
  · simp only [zw_ncs, List.mem_cons, List.not_mem_nil, or_false] at hq
    rcases hq with rfl | rfl | rfl | rfl
    · exact va_Nc.of (hs _ (by decide +kernel))
    · exact va_Nc.of (hs _ (by decide +kernel))
    · exact va_Nc.of (hs _ (by decide +kernel))
    · exact va_Nc.of (hs _ (by decide +kernel))
  · match i, hq with
    | 0, hq => cases hq; exact y0
    | 1, hq => cases hq; exact y1
    | 2, hq => cases hq; exact y2
    | i + 3, hq => simp [zw_sites] at hq
  · exact va_Fw.of (hts _ q126) (hts _ q125) (hts _ q131) (hts _ q129) (hts _ q127)
  · exact va_Fw.of (hts _ q140) (hts _ q139) (hts _ q144) (hts _ q142) (hts _ q127)
  · exact va_Fw.of (hts _ q298) (hts _ q297) (hts _ q302) (hts _ q300) (hts _ q127)
  · exact va_Fw.of (hts _ q593) (hts _ q592) (hts _ q597) (hts _ q595) (hts _ q127)

