/-! the one mathematical state of both sides, and the heap that holds it -/
set_option maxRecDepth 100000
/-- tenders, files, numbers by (row, place), the matters' tenders by file, the told ones.
rows: 0 state 1 winner 2 passed 3 part 4 sum (7t+b) 5 gone (7t+b) 6 mark (place 0) 7 one 8 two 9 first 10 news (2f, 2f+1) 11 fines 12 closed 13 paid -/
abbrev zS : Type := Nat × Nat × (Nat → Nat → Int32) × (Nat → List Nat) × (Nat → List Nat)
def zn (μ : zS) : Nat := μ.1
def zg (μ : zS) : Nat := μ.2.1
def zv (μ : zS) (v i : Nat) : Int32 := μ.2.2.1 v i
def zmt (μ : zS) (f : Nat) : List Nat := μ.2.2.2.1 f
def ztd (μ : zS) (f : Nat) : List Nat := μ.2.2.2.2 f
def zset (μ : zS) (v i : Nat) (x : Int32) : zS := (μ.1, μ.2.1, fun v' i' => if v' = v ∧ i' = i then x else μ.2.2.1 v' i', μ.2.2.2.1, μ.2.2.2.2)
def zsetn (μ : zS) (n : Nat) : zS := (n, μ.2.1, μ.2.2.1, μ.2.2.2.1, μ.2.2.2.2)
def zsetg (μ : zS) (n : Nat) : zS := (μ.1, n, μ.2.2.1, μ.2.2.2.1, μ.2.2.2.2)
def zsetm (μ : zS) (f : Nat) (l : List Nat) : zS := (μ.1, μ.2.1, μ.2.2.1, fun f' => if f' = f then l else μ.2.2.2.1 f', μ.2.2.2.2)
def zsett (μ : zS) (f : Nat) (l : List Nat) : zS := (μ.1, μ.2.1, μ.2.2.1, μ.2.2.2.1, fun f' => if f' = f then l else μ.2.2.2.2 f')

theorem zset_n {μ : zS} {v i : Nat} {x : Int32} : zn (zset μ v i x) = zn μ := rfl
theorem zset_g {μ : zS} {v i : Nat} {x : Int32} : zg (zset μ v i x) = zg μ := rfl
theorem zset_v {μ : zS} {v i : Nat} {x : Int32} {v' i' : Nat} : zv (zset μ v i x) v' i' = if v' = v ∧ i' = i then x else zv μ v' i' := rfl
theorem zset_m {μ : zS} {v i : Nat} {x : Int32} {f' : Nat} : zmt (zset μ v i x) f' = zmt μ f' := rfl
theorem zset_t {μ : zS} {v i : Nat} {x : Int32} {f' : Nat} : ztd (zset μ v i x) f' = ztd μ f' := rfl
theorem zsetn_n {μ : zS} {n : Nat} : zn (zsetn μ n) = n := rfl
theorem zsetn_g {μ : zS} {n : Nat} : zg (zsetn μ n) = zg μ := rfl
theorem zsetn_v {μ : zS} {n : Nat} {v' i' : Nat} : zv (zsetn μ n) v' i' = zv μ v' i' := rfl
theorem zsetn_m {μ : zS} {n : Nat} {f' : Nat} : zmt (zsetn μ n) f' = zmt μ f' := rfl
theorem zsetn_t {μ : zS} {n : Nat} {f' : Nat} : ztd (zsetn μ n) f' = ztd μ f' := rfl
theorem zsetg_n {μ : zS} {n : Nat} : zn (zsetg μ n) = zn μ := rfl
theorem zsetg_g {μ : zS} {n : Nat} : zg (zsetg μ n) = n := rfl
theorem zsetg_v {μ : zS} {n : Nat} {v' i' : Nat} : zv (zsetg μ n) v' i' = zv μ v' i' := rfl
theorem zsetg_m {μ : zS} {n : Nat} {f' : Nat} : zmt (zsetg μ n) f' = zmt μ f' := rfl
theorem zsetg_t {μ : zS} {n : Nat} {f' : Nat} : ztd (zsetg μ n) f' = ztd μ f' := rfl
theorem zsetm_n {μ : zS} {f : Nat} {l : List Nat} : zn (zsetm μ f l) = zn μ := rfl
theorem zsetm_g {μ : zS} {f : Nat} {l : List Nat} : zg (zsetm μ f l) = zg μ := rfl
theorem zsetm_v {μ : zS} {f : Nat} {l : List Nat} {v' i' : Nat} : zv (zsetm μ f l) v' i' = zv μ v' i' := rfl
theorem zsetm_m {μ : zS} {f : Nat} {l : List Nat} {f' : Nat} : zmt (zsetm μ f l) f' = if f' = f then l else zmt μ f' := rfl
theorem zsetm_t {μ : zS} {f : Nat} {l : List Nat} {f' : Nat} : ztd (zsetm μ f l) f' = ztd μ f' := rfl
theorem zsett_n {μ : zS} {f : Nat} {l : List Nat} : zn (zsett μ f l) = zn μ := rfl
theorem zsett_g {μ : zS} {f : Nat} {l : List Nat} : zg (zsett μ f l) = zg μ := rfl
theorem zsett_v {μ : zS} {f : Nat} {l : List Nat} {v' i' : Nat} : zv (zsett μ f l) v' i' = zv μ v' i' := rfl
theorem zsett_m {μ : zS} {f : Nat} {l : List Nat} {f' : Nat} : zmt (zsett μ f l) f' = zmt μ f' := rfl
theorem zsett_t {μ : zS} {f : Nat} {l : List Nat} {f' : Nat} : ztd (zsett μ f l) f' = if f' = f then l else ztd μ f' := rfl
/-- a set of places as bits -/
def zbit (t : Nat) : Int32 := (1 : Int32) <<< (nI t &&& 31)
def zbits (l : List Nat) : Int32 := l.foldl (fun a t => a ||| zbit t) 0
theorem zbits_app (l : List Nat) (t : Nat) : zbits (l ++ [t]) = zbits l ||| zbit t := by simp [zbits]
def zmv (μ : zS) (v i : Nat) : Int32 := if v = 14 then zbits (zmt μ i) else if v = 15 then zbits (ztd μ i) else zv μ v i
def zlen (v : Nat) : Nat := if v ≤ 3 then 30 else if v ≤ 5 then 210 else if v = 10 ∨ v = 11 then 40 else if v = 13 then 7 else 20
def zarr (w : zw_W) (μ : zS) (v : Nat) : zw_En := if v = 5 ∨ v = 12 then zw_eZ w (zlen v) (zmv μ v) else zw_eI w (zlen v) (zmv μ v)
abbrev zmob (ad : Nat → Nat → Nat → Nat) (μ : zS) (th : Int32) : List Value := [.int th, .int (nI (zn μ)), .ref (ad 101 0 0), .ref (ad 102 0 0), .ref (ad 103 0 0), .ref (ad 104 0 0), .ref (ad 105 0 0), .ref (ad 106 0 0), .int (zv μ 6 0), .int (nI (zg μ)), .ref (ad 108 0 0), .ref (ad 109 0 0), .ref (ad 115 0 0), .ref (ad 116 0 0), .ref (ad 110 0 0), .ref (ad 111 0 0), .ref (ad 112 0 0), .ref (ad 113 0 0), .ref (ad 114 0 0)]
def zgo (o : Int64) : Nat → Int64 := fun j => if j = 0 then o else 0
theorem zgo_up {o x : Int64} : vp_updL (zgo o) 0 x = zgo x := by
  funext j
  unfold vp_updL zgo
  by_cases z : j = 0 <;> simp [z]
theorem zgo_0 : zgo 0 = fun _ => 0 := by funext j; unfold zgo; simp
/-- the model's cells, and the law's long[1] (200) -/
def zcM (w : zw_W) (ad : Nat → Nat → Nat → Nat) (μ : zS) (th : Int32) (o : Int64) (k : Nat) : Option zw_En :=
  if k = 100 then some (zw_eC 6 (zmob ad μ th)) else if k = 200 then some (zw_eJ w 1 (zgo o)) else if 101 ≤ k ∧ k ≤ 116 ∧ k ≠ 107 then some (zarr w μ (k - 101)) else none
/-- what a file's int[7] holds of a row of 2f, 2f+1 -/
def zpr (μ : zS) (v f b : Nat) : Int32 := if b < 7 then (if nI b = zv μ 7 f then zv μ v (2 * f) else if nI b = zv μ 8 f then zv μ v (2 * f + 1) else 0) else 0
/-- CartelWatch's cells: 0 itself 1 tenders 2 files 3 paid; 10 a tender 11 its bids 12 a bid; 20 an inquiry 21 its pair 22 matters 23 told 24 tellings 25 fines -/
def zcC (w : zw_W) (ad : Nat → Nat → Nat → Nat) (σ : zS) (k i j : Nat) : Option zw_En :=
  if k < 10 then (if i = 0 ∧ j = 0 then
      (if k = 0 then some (zw_eC 0 [.ref (ad 1 0 0), .ref (ad 2 0 0), .ref (ad 3 0 0), .int (zv σ 6 0)])
       else if k = 1 then some (zw_eL (zn σ) (fun t => ad 10 t 0))
       else if k = 2 then some (zw_eL (zg σ) (fun f => ad 20 f 0))
       else if k = 3 then some (zw_eI w 7 (zv σ 13)) else none) else none)
  else if k < 20 then (if i < zn σ then
      (if k = 12 then (if j < 7 ∧ ¬ zv σ 4 (7 * i + j) = 0 then some (zw_eC 2 [.int (zv σ 4 (7 * i + j)), .int (zv σ 5 (7 * i + j))]) else none)
       else if ¬ j = 0 then none
       else if k = 10 then some (zw_eC 1 [.ref (ad 11 i 0), .int (if zv σ 0 i = 0 then 1 else 0), .int (if zv σ 0 i = 1 then zv σ 1 i else -1), .int (zv σ 2 i), .int (zv σ 3 i)])
       else if k = 11 then some (zw_eB w 7 (fun b => if b < 7 then (if zv σ 4 (7 * i + b) = 0 then none else some (ad 12 i b)) else none)) else none) else none)
  else (if i < zg σ ∧ j = 0 then
      (if k = 20 then some (zw_eC 4 [.ref (ad 21 i 0), .ref (ad 22 i 0), .ref (ad 23 i 0), .ref (ad 24 i 0), .ref (ad 25 i 0), .int (zv σ 9 i), .int (zv σ 12 i)])
       else if k = 21 then some (zw_eC 3 [.int (zv σ 7 i), .int (zv σ 8 i)])
       else if k = 22 then some (zw_eL (zmt σ i).length (fun q => ad 10 ((zmt σ i).getD q 99) 0))
       else if k = 23 then some (zw_eL (ztd σ i).length (fun q => ad 10 ((ztd σ i).getD q 99) 0))
       else if k = 24 then some (zw_eI w 7 (zpr σ 10 i))
       else if k = 25 then some (zw_eI w 7 (zpr σ 11 i)) else none) else none)
def zc (w : zw_W) (ad : Nat → Nat → Nat → Nat) (σ μ : zS) (th : Int32) (o : Int64) (k i j : Nat) : Option zw_En :=
  if k < 100 then zcC w ad σ k i j else if i = 0 ∧ j = 0 then zcM w ad μ th o k else none
/-- the world: CartelWatch holds σ, the model holds μ and th, the law's array o -/
def zW (w : zw_W) (M : zw_M) (ad : Nat → Nat → Nat → Nat) (σ μ : zS) (th : Int32) (o : Int64) : Prop :=
  (∀ (k i j : Nat) (e : zw_En), zc w ad σ μ th o k i j = some e → M (ad k i j) = some e) ∧
  (∀ (k i j k' i' j' : Nat), (zc w ad σ μ th o k i j).isSome = true → (zc w ad σ μ th o k' i' j').isSome = true → ad k i j = ad k' i' j' → k = k' ∧ i = i' ∧ j = j')
theorem zW.put {w : zw_W} {M : zw_M} {ad : Nat → Nat → Nat → Nat} {σ μ σ' μ' : zS} {th th' : Int32} {o o' : Int64} (h : zW w M ad σ μ th o) {k i j : Nat} {e : zw_En} (hl : (zc w ad σ μ th o k i j).isSome = true) (hn : zc w ad σ' μ' th' o' k i j = some e)
    (hr : ∀ k' i' j', ¬ (k' = k ∧ i' = i ∧ j' = j) → zc w ad σ' μ' th' o' k' i' j' = zc w ad σ μ th o k' i' j') : zW w (zw_u M (ad k i j) e) ad σ' μ' th' o' := by
  have live : ∀ k' i' j', (zc w ad σ' μ' th' o' k' i' j').isSome = true → (zc w ad σ μ th o k' i' j').isSome = true := by
    intro k' i' j' hs
    by_cases q : k' = k ∧ i' = i ∧ j' = j
    · obtain ⟨rfl, rfl, rfl⟩ := q; exact hl
    · rw [hr k' i' j' q] at hs; exact hs
  refine ⟨fun k' i' j' e' he => ?_, fun k1 i1 j1 k2 i2 j2 h1 h2 hq => h.2 k1 i1 j1 k2 i2 j2 (live _ _ _ h1) (live _ _ _ h2) hq⟩
  by_cases q : k' = k ∧ i' = i ∧ j' = j
  · obtain ⟨rfl, rfl, rfl⟩ := q
    rw [hn] at he
    cases he
    exact zw_us
  · have hs : (zc w ad σ μ th o k' i' j').isSome = true := live k' i' j' (by rw [he]; rfl)
    rw [hr k' i' j' q] at he
    rw [zw_un (fun z => q (h.2 _ _ _ _ _ _ hs hl z))]
    exact h.1 k' i' j' e' he
/-- what isn't the world's may change -/
theorem zW.keep {w : zw_W} {M M' : zw_M} {ad : Nat → Nat → Nat → Nat} {σ μ : zS} {th : Int32} {o : Int64} (h : zW w M ad σ μ th o) (hk : ∀ a e, M a = some e → M' a = some e) : zW w M' ad σ μ th o := ⟨fun k i j e he => hk _ _ (h.1 k i j e he), h.2⟩
section ZWM
variable {w : zw_W} {M : zw_M} {ad : Nat → Nat → Nat → Nat} {σ μ : zS} {th : Int32} {o : Int64}
theorem zW.mo (h : zW w M ad σ μ th o) : M (ad 100 0 0) = some (zw_eC 6 (zmob ad μ th)) := h.1 100 0 0 _ rfl
theorem zW.mout (h : zW w M ad σ μ th o) : M (ad 200 0 0) = some (zw_eJ w 1 (zgo o)) := h.1 200 0 0 _ rfl
theorem zmv_o {μ : zS} {v : Nat} (h1 : v ≠ 14) (h2 : v ≠ 15) : zmv μ v = zv μ v := by funext i; simp [zmv, h1, h2]
theorem zmv_14 {μ : zS} : zmv μ 14 = fun f => zbits (zmt μ f) := by funext i; simp [zmv]
theorem zmv_15 {μ : zS} : zmv μ 15 = fun f => zbits (ztd μ f) := by funext i; simp [zmv]

theorem zW.m0 (h : zW w M ad σ μ th o) : M (ad 101 0 0) = some (zw_eI w 30 (zv μ 0)) := by rw [← zmv_o (μ := μ) (v := 0) (by decide) (by decide)]; exact h.1 101 0 0 _ rfl
theorem zW.m1 (h : zW w M ad σ μ th o) : M (ad 102 0 0) = some (zw_eI w 30 (zv μ 1)) := by rw [← zmv_o (μ := μ) (v := 1) (by decide) (by decide)]; exact h.1 102 0 0 _ rfl
theorem zW.m2 (h : zW w M ad σ μ th o) : M (ad 103 0 0) = some (zw_eI w 30 (zv μ 2)) := by rw [← zmv_o (μ := μ) (v := 2) (by decide) (by decide)]; exact h.1 103 0 0 _ rfl
theorem zW.m3 (h : zW w M ad σ μ th o) : M (ad 104 0 0) = some (zw_eI w 30 (zv μ 3)) := by rw [← zmv_o (μ := μ) (v := 3) (by decide) (by decide)]; exact h.1 104 0 0 _ rfl
theorem zW.m4 (h : zW w M ad σ μ th o) : M (ad 105 0 0) = some (zw_eI w 210 (zv μ 4)) := by rw [← zmv_o (μ := μ) (v := 4) (by decide) (by decide)]; exact h.1 105 0 0 _ rfl
theorem zW.m5 (h : zW w M ad σ μ th o) : M (ad 106 0 0) = some (zw_eZ w 210 (zv μ 5)) := by rw [← zmv_o (μ := μ) (v := 5) (by decide) (by decide)]; exact h.1 106 0 0 _ rfl
theorem zW.m7 (h : zW w M ad σ μ th o) : M (ad 108 0 0) = some (zw_eI w 20 (zv μ 7)) := by rw [← zmv_o (μ := μ) (v := 7) (by decide) (by decide)]; exact h.1 108 0 0 _ rfl
theorem zW.m8 (h : zW w M ad σ μ th o) : M (ad 109 0 0) = some (zw_eI w 20 (zv μ 8)) := by rw [← zmv_o (μ := μ) (v := 8) (by decide) (by decide)]; exact h.1 109 0 0 _ rfl
theorem zW.m9 (h : zW w M ad σ μ th o) : M (ad 110 0 0) = some (zw_eI w 20 (zv μ 9)) := by rw [← zmv_o (μ := μ) (v := 9) (by decide) (by decide)]; exact h.1 110 0 0 _ rfl
theorem zW.m10 (h : zW w M ad σ μ th o) : M (ad 111 0 0) = some (zw_eI w 40 (zv μ 10)) := by rw [← zmv_o (μ := μ) (v := 10) (by decide) (by decide)]; exact h.1 111 0 0 _ rfl
theorem zW.m11 (h : zW w M ad σ μ th o) : M (ad 112 0 0) = some (zw_eI w 40 (zv μ 11)) := by rw [← zmv_o (μ := μ) (v := 11) (by decide) (by decide)]; exact h.1 112 0 0 _ rfl
theorem zW.m12 (h : zW w M ad σ μ th o) : M (ad 113 0 0) = some (zw_eZ w 20 (zv μ 12)) := by rw [← zmv_o (μ := μ) (v := 12) (by decide) (by decide)]; exact h.1 113 0 0 _ rfl
theorem zW.m13 (h : zW w M ad σ μ th o) : M (ad 114 0 0) = some (zw_eI w 7 (zv μ 13)) := by rw [← zmv_o (μ := μ) (v := 13) (by decide) (by decide)]; exact h.1 114 0 0 _ rfl
theorem zW.m14 (h : zW w M ad σ μ th o) : M (ad 115 0 0) = some (zw_eI w 20 (fun f => zbits (zmt μ f))) := by rw [← zmv_14]; exact h.1 115 0 0 _ rfl
theorem zW.m15 (h : zW w M ad σ μ th o) : M (ad 116 0 0) = some (zw_eI w 20 (fun f => zbits (ztd μ f))) := by rw [← zmv_15]; exact h.1 116 0 0 _ rfl
theorem zc_hi {k i j : Nat} (hk : ¬ k < 100) (hij : i = 0 ∧ j = 0) : zc w ad σ μ th o k i j = zcM w ad μ th o k := by unfold zc; rw [if_neg hk, if_pos hij]
theorem zc_lo {k i j : Nat} (hk : k < 100) : zc w ad σ μ th o k i j = zcC w ad σ k i j := by unfold zc; rw [if_pos hk]
/-- only the model's cell k changes -/
theorem zW.putM {μ' : zS} {th' : Int32} {o' : Int64} (h : zW w M ad σ μ th o) {k : Nat} {e : zw_En} (hk : ¬ k < 100) (hl : (zcM w ad μ th o k).isSome = true) (hn : zcM w ad μ' th' o' k = some e) (hr : ∀ k', ¬ k' = k → zcM w ad μ' th' o' k' = zcM w ad μ th o k') : zW w (zw_u M (ad k 0 0) e) ad σ μ' th' o' := by
  refine h.put (by rw [zc_hi hk ⟨rfl, rfl⟩]; exact hl) (by rw [zc_hi hk ⟨rfl, rfl⟩]; exact hn) (fun k' i' j' q => ?_)
  unfold zc
  split
  · rfl
  · split
    · rename_i h1 h2
      exact hr k' (fun z => q ⟨z, h2.1, h2.2⟩)
    · rfl
theorem zc_fun {v j : Nat} {x : Int32} : (fun i => zv (zset μ v j x) v i) = upd (zv μ v) j x := by
  funext i
  rw [zset_v]
  by_cases q : i = j
  · subst q; rw [if_pos ⟨rfl, rfl⟩]; exact pk_us.symm
  · rw [if_neg (fun z => q z.2)]; exact (pk_un q).symm
theorem zv_fun {v j : Nat} {x : Int32} : zv (zset μ v j x) v = upd (zv μ v) j x := zc_fun
theorem zmv_ne {v v' j : Nat} {x : Int32} (h : v' ≠ v) : zmv (zset μ v j x) v' = zmv μ v' := by
  funext i
  simp only [zmv, zset_m, zset_t, zset_v]
  rw [if_neg (fun z : v' = v ∧ i = j => h z.1)]
theorem zarr_ne {v v' j : Nat} {x : Int32} (h : v' ≠ v) : zarr w (zset μ v j x) v' = zarr w μ v' := by unfold zarr; rw [zmv_ne h]
theorem zcM_set {v j : Nat} {x : Int32} (h6 : v ≠ 6) {k : Nat} (hk : ¬ k = 101 + v) : zcM w ad (zset μ v j x) th o k = zcM w ad μ th o k := by
  unfold zcM
  split
  · rw [show zmob ad (zset μ v j x) th = zmob ad μ th from by
      unfold zmob
      rw [zset_n, zset_g, zset_v, if_neg (fun z : 6 = v ∧ 0 = j => h6 z.1.symm)]]
  · split
    · rfl
    · split
      · rename_i h1 h2 h3
        rw [zarr_ne (by omega)]
      · rfl

theorem zW.p0 (h : zW w M ad σ μ th o) {j : Nat} {x : Int32} : zW w (zw_u M (ad 101 0 0) (zw_eI w 30 (upd (zv μ 0) j x))) ad σ (zset μ 0 j x) th o := by
  refine h.putM (by decide) rfl ?_ (fun k' q => zcM_set (by decide) q)
  rw [← zv_fun, ← zmv_o (μ := zset μ 0 j x) (v := 0) (by decide) (by decide)]
  rfl
theorem zW.p1 (h : zW w M ad σ μ th o) {j : Nat} {x : Int32} : zW w (zw_u M (ad 102 0 0) (zw_eI w 30 (upd (zv μ 1) j x))) ad σ (zset μ 1 j x) th o := by
  refine h.putM (by decide) rfl ?_ (fun k' q => zcM_set (by decide) q)
  rw [← zv_fun, ← zmv_o (μ := zset μ 1 j x) (v := 1) (by decide) (by decide)]
  rfl
theorem zW.p2 (h : zW w M ad σ μ th o) {j : Nat} {x : Int32} : zW w (zw_u M (ad 103 0 0) (zw_eI w 30 (upd (zv μ 2) j x))) ad σ (zset μ 2 j x) th o := by
  refine h.putM (by decide) rfl ?_ (fun k' q => zcM_set (by decide) q)
  rw [← zv_fun, ← zmv_o (μ := zset μ 2 j x) (v := 2) (by decide) (by decide)]
  rfl
theorem zW.p3 (h : zW w M ad σ μ th o) {j : Nat} {x : Int32} : zW w (zw_u M (ad 104 0 0) (zw_eI w 30 (upd (zv μ 3) j x))) ad σ (zset μ 3 j x) th o := by
  refine h.putM (by decide) rfl ?_ (fun k' q => zcM_set (by decide) q)
  rw [← zv_fun, ← zmv_o (μ := zset μ 3 j x) (v := 3) (by decide) (by decide)]
  rfl
theorem zW.p4 (h : zW w M ad σ μ th o) {j : Nat} {x : Int32} : zW w (zw_u M (ad 105 0 0) (zw_eI w 210 (upd (zv μ 4) j x))) ad σ (zset μ 4 j x) th o := by
  refine h.putM (by decide) rfl ?_ (fun k' q => zcM_set (by decide) q)
  rw [← zv_fun, ← zmv_o (μ := zset μ 4 j x) (v := 4) (by decide) (by decide)]
  rfl
theorem zW.p5 (h : zW w M ad σ μ th o) {j : Nat} {x : Int32} : zW w (zw_u M (ad 106 0 0) (zw_eZ w 210 (upd (zv μ 5) j x))) ad σ (zset μ 5 j x) th o := by
  refine h.putM (by decide) rfl ?_ (fun k' q => zcM_set (by decide) q)
  rw [← zv_fun, ← zmv_o (μ := zset μ 5 j x) (v := 5) (by decide) (by decide)]
  rfl
theorem zW.p7 (h : zW w M ad σ μ th o) {j : Nat} {x : Int32} : zW w (zw_u M (ad 108 0 0) (zw_eI w 20 (upd (zv μ 7) j x))) ad σ (zset μ 7 j x) th o := by
  refine h.putM (by decide) rfl ?_ (fun k' q => zcM_set (by decide) q)
  rw [← zv_fun, ← zmv_o (μ := zset μ 7 j x) (v := 7) (by decide) (by decide)]
  rfl
theorem zW.p8 (h : zW w M ad σ μ th o) {j : Nat} {x : Int32} : zW w (zw_u M (ad 109 0 0) (zw_eI w 20 (upd (zv μ 8) j x))) ad σ (zset μ 8 j x) th o := by
  refine h.putM (by decide) rfl ?_ (fun k' q => zcM_set (by decide) q)
  rw [← zv_fun, ← zmv_o (μ := zset μ 8 j x) (v := 8) (by decide) (by decide)]
  rfl
theorem zW.p9 (h : zW w M ad σ μ th o) {j : Nat} {x : Int32} : zW w (zw_u M (ad 110 0 0) (zw_eI w 20 (upd (zv μ 9) j x))) ad σ (zset μ 9 j x) th o := by
  refine h.putM (by decide) rfl ?_ (fun k' q => zcM_set (by decide) q)
  rw [← zv_fun, ← zmv_o (μ := zset μ 9 j x) (v := 9) (by decide) (by decide)]
  rfl
theorem zW.p10 (h : zW w M ad σ μ th o) {j : Nat} {x : Int32} : zW w (zw_u M (ad 111 0 0) (zw_eI w 40 (upd (zv μ 10) j x))) ad σ (zset μ 10 j x) th o := by
  refine h.putM (by decide) rfl ?_ (fun k' q => zcM_set (by decide) q)
  rw [← zv_fun, ← zmv_o (μ := zset μ 10 j x) (v := 10) (by decide) (by decide)]
  rfl
theorem zW.p11 (h : zW w M ad σ μ th o) {j : Nat} {x : Int32} : zW w (zw_u M (ad 112 0 0) (zw_eI w 40 (upd (zv μ 11) j x))) ad σ (zset μ 11 j x) th o := by
  refine h.putM (by decide) rfl ?_ (fun k' q => zcM_set (by decide) q)
  rw [← zv_fun, ← zmv_o (μ := zset μ 11 j x) (v := 11) (by decide) (by decide)]
  rfl
theorem zW.p12 (h : zW w M ad σ μ th o) {j : Nat} {x : Int32} : zW w (zw_u M (ad 113 0 0) (zw_eZ w 20 (upd (zv μ 12) j x))) ad σ (zset μ 12 j x) th o := by
  refine h.putM (by decide) rfl ?_ (fun k' q => zcM_set (by decide) q)
  rw [← zv_fun, ← zmv_o (μ := zset μ 12 j x) (v := 12) (by decide) (by decide)]
  rfl
theorem zW.p13 (h : zW w M ad σ μ th o) {j : Nat} {x : Int32} : zW w (zw_u M (ad 114 0 0) (zw_eI w 7 (upd (zv μ 13) j x))) ad σ (zset μ 13 j x) th o := by
  refine h.putM (by decide) rfl ?_ (fun k' q => zcM_set (by decide) q)
  rw [← zv_fun, ← zmv_o (μ := zset μ 13 j x) (v := 13) (by decide) (by decide)]
  rfl
theorem zsetm_fun {f : Nat} {l : List Nat} {x : Int32} (hx : x = zbits l) : (fun f' => zbits (zmt (zsetm μ f l) f')) = upd (fun f' => zbits (zmt μ f')) f x := by
  funext i
  rw [zsetm_m]
  by_cases q : i = f
  · subst q; rw [if_pos rfl, pk_us, hx]
  · rw [if_neg q, pk_un q]
theorem zW.p14 (h : zW w M ad σ μ th o) {f : Nat} {l : List Nat} {x : Int32} (hx : x = zbits l) : zW w (zw_u M (ad 115 0 0) (zw_eI w 20 (upd (fun f' => zbits (zmt μ f')) f x))) ad σ (zsetm μ f l) th o := by
  refine h.putM (by decide) rfl ?_ (fun k' q => ?_)
  · rw [← zsetm_fun hx, ← zmv_14]
    rfl
  · unfold zcM
    split
    · rfl
    · split
      · rfl
      · split
        · rename_i h1 h2 h3
          have hv : k' - 101 ≠ 14 := by omega
          have hz : zmv (zsetm μ f l) (k' - 101) = zmv μ (k' - 101) := by
            funext i
            simp only [zmv, zsetm_m, zsetm_t, zsetm_v, if_neg hv]
          unfold zarr
          rw [hz]
        · rfl
theorem zsett_fun {f : Nat} {l : List Nat} {x : Int32} (hx : x = zbits l) : (fun f' => zbits (ztd (zsett μ f l) f')) = upd (fun f' => zbits (ztd μ f')) f x := by
  funext i
  rw [zsett_t]
  by_cases q : i = f
  · subst q; rw [if_pos rfl, pk_us, hx]
  · rw [if_neg q, pk_un q]
theorem zW.p15 (h : zW w M ad σ μ th o) {f : Nat} {l : List Nat} {x : Int32} (hx : x = zbits l) : zW w (zw_u M (ad 116 0 0) (zw_eI w 20 (upd (fun f' => zbits (ztd μ f')) f x))) ad σ (zsett μ f l) th o := by
  refine h.putM (by decide) rfl ?_ (fun k' q => ?_)
  · rw [← zsett_fun hx, ← zmv_15]
    rfl
  · unfold zcM
    split
    · rfl
    · split
      · rfl
      · split
        · rename_i h1 h2 h3
          have hv : k' - 101 ≠ 15 := by omega
          have hz : zmv (zsett μ f l) (k' - 101) = zmv μ (k' - 101) := by
            funext i
            simp only [zmv, zsett_m, zsett_t, zsett_v, if_neg hv]
          unfold zarr
          rw [hz]
        · rfl
theorem zW.pth (h : zW w M ad σ μ th o) {x : Int32} : zW w (zw_u M (ad 100 0 0) (zw_eC 6 (zmob ad μ x))) ad σ μ x o :=
  h.putM (by decide) rfl rfl (fun k' q => by unfold zcM; rw [if_neg q, if_neg q])
theorem zW.pn (h : zW w M ad σ μ th o) {n : Nat} : zW w (zw_u M (ad 100 0 0) (zw_eC 6 (zmob ad (zsetn μ n) th))) ad σ (zsetn μ n) th o :=
  h.putM (by decide) rfl rfl (fun k' q => by unfold zcM; rw [if_neg q, if_neg q]; rfl)
theorem zW.pg (h : zW w M ad σ μ th o) {n : Nat} : zW w (zw_u M (ad 100 0 0) (zw_eC 6 (zmob ad (zsetg μ n) th))) ad σ (zsetg μ n) th o :=
  h.putM (by decide) rfl rfl (fun k' q => by unfold zcM; rw [if_neg q, if_neg q]; rfl)
theorem zW.pm (h : zW w M ad σ μ th o) {x : Int32} : zW w (zw_u M (ad 100 0 0) (zw_eC 6 (zmob ad (zset μ 6 0 x) th))) ad σ (zset μ 6 0 x) th o := by
  refine h.putM (by decide) rfl rfl (fun k' q => ?_)
  unfold zcM
  rw [if_neg q, if_neg q]
  split
  · rfl
  · split
    · rename_i h2 h3
      rw [zarr_ne (by omega)]
    · rfl
theorem zW.pout (h : zW w M ad σ μ th o) {x : Int64} : zW w (zw_u M (ad 200 0 0) (zw_eJ w 1 (zgo x))) ad σ μ th x :=
  h.putM (by decide) rfl rfl (fun k' q => by unfold zcM; rw [if_neg q, if_neg q])
end ZWM
/-- what every state of a run has -/
def zI (μ : zS) : Prop :=
  (zn μ ≤ 30 ∧ zg μ ≤ 20) ∧
  (∀ t, zv μ 0 t = 0 ∨ zv μ 0 t = 1 ∨ zv μ 0 t = 2) ∧
  (∀ t, t < zn μ → zv μ 0 t = 1 → ∃ j, j < 7 ∧ zv μ 1 t = nI j ∧ 0 < zv μ 4 (7 * t + j)) ∧
  (∀ t, t < zn μ → zv μ 2 t = -1 ∨ (zv μ 0 t = 1 ∧ ∃ j, j < 7 ∧ zv μ 2 t = nI j)) ∧
  (∀ i, 0 ≤ zv μ 4 i) ∧
  (∀ i, zv μ 5 i = 0 ∨ (zv μ 5 i = 1 ∧ 0 < zv μ 4 i)) ∧
  (∀ t, zn μ ≤ t → zv μ 0 t = 0 ∧ zv μ 3 t = 0 ∧ ∀ b, b < 7 → zv μ 4 (7 * t + b) = 0 ∧ zv μ 5 (7 * t + b) = 0) ∧
  (∀ f, f < zg μ → (∃ a b, a < b ∧ b < 7 ∧ zv μ 7 f = nI a ∧ zv μ 8 f = nI b) ∧ (zv μ 9 f = -1 ∨ zv μ 9 f = zv μ 7 f ∨ zv μ 9 f = zv μ 8 f)) ∧
  (∀ f, f < zg μ → (zmt μ f).Nodup ∧ (∀ t ∈ zmt μ f, t < zn μ) ∧ (ztd μ f).Nodup ∧ ∀ t ∈ ztd μ f, t ∈ zmt μ f) ∧
  (∀ f, zg μ ≤ f → zmt μ f = [] ∧ ztd μ f = [] ∧ zv μ 10 (2 * f) = 0 ∧ zv μ 10 (2 * f + 1) = 0 ∧ zv μ 11 (2 * f) = 0 ∧ zv μ 11 (2 * f + 1) = 0 ∧ zv μ 12 f = 0) ∧
  (∀ f, zv μ 12 f = 0 ∨ zv μ 12 f = 1)
/-- what the readers of tenders need of a state -/
def zJ (μ : zS) : Prop := zn μ ≤ 30 ∧ ∀ t, t < zn μ → zv μ 0 t = 1 → ∃ j, j < 7 ∧ zv μ 1 t = nI j ∧ 0 < zv μ 4 (7 * t + j)
theorem zJ.n {μ : zS} (h : zJ μ) : zn μ ≤ 30 := h.1
theorem zJ.wi {μ : zS} (h : zJ μ) {t : Nat} (ht : t < zn μ) (h1 : zv μ 0 t = 1) : ∃ j, j < 7 ∧ zv μ 1 t = nI j ∧ 0 < zv μ 4 (7 * t + j) := h.2 t ht h1
theorem zI.j {μ : zS} (h : zI μ) : zJ μ := ⟨h.1.1, h.2.2.1⟩
theorem zJ.set {μ : zS} (h : zJ μ) {v i : Nat} {x : Int32} (hv : 4 < v) : zJ (zset μ v i x) := by
  refine ⟨h.1, fun t ht h1 => ?_⟩
  rw [zset_v, if_neg (by omega)] at h1 ⊢
  obtain ⟨j, a, b, c⟩ := h.2 t ht h1
  exact ⟨j, a, b, by rw [zset_v, if_neg (by omega)]; exact c⟩
theorem zJ.setm {μ : zS} (h : zJ μ) {f : Nat} {l : List Nat} : zJ (zsetm μ f l) := h
theorem zsetm_2 {μ : zS} {f : Nat} {l l' : List Nat} : zsetm (zsetm μ f l) f l' = zsetm μ f l' := by
  unfold zsetm
  congr 4
  funext f'
  by_cases q : f' = f <;> simp [q]
theorem zI.n {μ : zS} (h : zI μ) : zn μ ≤ 30 := h.1.1
theorem zI.g {μ : zS} (h : zI μ) : zg μ ≤ 20 := h.1.2
theorem zI.st {μ : zS} (h : zI μ) (t : Nat) : zv μ 0 t = 0 ∨ zv μ 0 t = 1 ∨ zv μ 0 t = 2 := h.2.1 t
theorem zI.wi {μ : zS} (h : zI μ) {t : Nat} (ht : t < zn μ) (h1 : zv μ 0 t = 1) : ∃ j, j < 7 ∧ zv μ 1 t = nI j ∧ 0 < zv μ 4 (7 * t + j) := h.2.2.1 t ht h1
theorem zI.pa {μ : zS} (h : zI μ) {t : Nat} (ht : t < zn μ) : zv μ 2 t = -1 ∨ (zv μ 0 t = 1 ∧ ∃ j, j < 7 ∧ zv μ 2 t = nI j) := h.2.2.2.1 t ht
theorem zI.sm {μ : zS} (h : zI μ) (i : Nat) : 0 ≤ zv μ 4 i := h.2.2.2.2.1 i
theorem zI.gs {μ : zS} (h : zI μ) (i : Nat) : zv μ 5 i = 0 ∨ (zv μ 5 i = 1 ∧ 0 < zv μ 4 i) := h.2.2.2.2.2.1 i
theorem zI.gn {μ : zS} (h : zI μ) (i : Nat) : zv μ 5 i = 0 ∨ zv μ 5 i = 1 := by
  rcases h.gs i with q | q
  · exact Or.inl q
  · exact Or.inr q.1
theorem zI.new {μ : zS} (h : zI μ) {t : Nat} (ht : zn μ ≤ t) : zv μ 0 t = 0 ∧ zv μ 3 t = 0 ∧ ∀ b, b < 7 → zv μ 4 (7 * t + b) = 0 ∧ zv μ 5 (7 * t + b) = 0 := h.2.2.2.2.2.2.1 t ht
theorem zI.fi {μ : zS} (h : zI μ) {f : Nat} (hf : f < zg μ) : (∃ a b, a < b ∧ b < 7 ∧ zv μ 7 f = nI a ∧ zv μ 8 f = nI b) ∧ (zv μ 9 f = -1 ∨ zv μ 9 f = zv μ 7 f ∨ zv μ 9 f = zv μ 8 f) := h.2.2.2.2.2.2.2.1 f hf
theorem zI.ls {μ : zS} (h : zI μ) {f : Nat} (hf : f < zg μ) : (zmt μ f).Nodup ∧ (∀ t ∈ zmt μ f, t < zn μ) ∧ (ztd μ f).Nodup ∧ ∀ t ∈ ztd μ f, t ∈ zmt μ f := h.2.2.2.2.2.2.2.2.1 f hf
theorem zI.nf {μ : zS} (h : zI μ) {f : Nat} (hf : zg μ ≤ f) : zmt μ f = [] ∧ ztd μ f = [] ∧ zv μ 10 (2 * f) = 0 ∧ zv μ 10 (2 * f + 1) = 0 ∧ zv μ 11 (2 * f) = 0 ∧ zv μ 11 (2 * f + 1) = 0 ∧ zv μ 12 f = 0 := h.2.2.2.2.2.2.2.2.2.1 f hf
theorem zI.cl {μ : zS} (h : zI μ) (f : Nat) : zv μ 12 f = 0 ∨ zv μ 12 f = 1 := h.2.2.2.2.2.2.2.2.2.2 f
/-- an int in 0 .. n-1 -/
def zin (x : Int32) (n : Nat) : Bool := decide (0 ≤ x) && decide (x < nI n)
theorem zin_of {x : Int32} {n : Nat} (h : zin x n = true) (hn : n < 2 ^ 31) : ∃ j, j < n ∧ x = nI j := by
  simp only [zin, Bool.and_eq_true, decide_eq_true_eq] at h
  rcases pk_ix x hn with q | q | q
  · exact absurd h.1 (Int32.not_le.mpr q)
  · exact absurd h.2 (Int32.not_lt.mpr q)
  · exact q
theorem zin_n {j n : Nat} (h : j < n) (hn : n < 2 ^ 31) : zin (nI j) n = true := by
  simp only [zin, Bool.and_eq_true, decide_eq_true_eq]
  exact ⟨nI_pos' (by omega), nI_lt h hn⟩

