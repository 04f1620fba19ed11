/-! what each call answers, throws and changes: plain functions of the state. An answer is (what comes back, the model's code, the state behind) -/
set_option maxRecDepth 100000
abbrev zR : Type := Int32 × Int32 × zS
abbrev zx (x : Int32) : Nat := x.toNatClampNeg
def zst (μ : zS) (t b : Nat) : Bool := decide (0 < zv μ 4 (7 * t + b)) && (zv μ 5 (7 * t + b) == 0)
def zprice (μ : zS) (t : Nat) : Int32 := zv μ 4 (7 * t + zx (zv μ 1 t))
def zmo (x : Int32) : Bool := decide (1 ≤ x) && decide (x ≤ 100000)
def zcountF (μ : zS) (t b : Nat) (a : Int32) : Int32 := a + zb (zst μ t b)
def zcount (μ : zS) (t : Nat) : Int32 := zf (zcountF μ t) 7 0
def zop_tender (μ : zS) : zR := if zn μ = 30 then (0, 1, μ) else (nI (zn μ), 0, zsetn (zset μ 2 (zn μ) (-1)) (zn μ + 1))
def zop_bid (μ : zS) (t b x : Int32) : zR :=
  if zin t (zn μ) = false then (0, 1, μ) else if (zin b 7 && zmo x) = false then (0, 2, μ)
  else if (zv μ 0 (zx t) == 0 && decide (zv μ 4 (7 * zx t + zx b) ≤ 0)) = false then (0, 3, μ)
  else (zcount (zset μ 4 (7 * zx t + zx b) x) (zx t), 0, zset μ 4 (7 * zx t + zx b) x)
def zop_withdraw (μ : zS) (t b : Int32) : zR :=
  if zin t (zn μ) = false then (0, 1, μ) else if zin b 7 = false then (0, 2, μ)
  else if (zv μ 0 (zx t) == 0 && zst μ (zx t) (zx b)) = false then (0, 3, μ)
  else (zv μ 4 (7 * zx t + zx b), 0, zset μ 5 (7 * zx t + zx b) 1)
def zbestF (μ : zS) (t b : Nat) (a : Int32) : Int32 := if (zst μ t b && (a == -1 || decide (zv μ 4 (7 * t + b) < zv μ 4 (7 * t + zx a)))) = true then nI b else a
def zbest (μ : zS) (t : Nat) : Int32 := zf (zbestF μ t) 7 (-1)
def zop_award (μ : zS) (t : Int32) : zR :=
  if zin t (zn μ) = false then (0, 1, μ) else if (zv μ 0 (zx t) == 0) = false then (0, 2, μ)
  else (zbest μ (zx t), 0, zset (zset μ 0 (zx t) (if zbest μ (zx t) = -1 then 2 else 1)) 1 (zx t) (zbest μ (zx t)))
def zop_passOn (μ : zS) (t b x : Int32) : zR :=
  if zin t (zn μ) = false then (0, 1, μ) else if (zv μ 0 (zx t) == 1 && zv μ 2 (zx t) == -1) = false then (0, 2, μ)
  else if (zin b 7 && (decide (1 ≤ x) && decide (x ≤ zprice μ (zx t))) && !(b == zv μ 1 (zx t))) = false then (0, 3, μ)
  else (zv μ 1 (zx t), 0, zset (zset μ 2 (zx t) b) 3 (zx t) x)
def zturnF (μ : zS) (b : Int32) (t : Nat) (a : Int32) : Int32 := if zv μ 0 t = 1 then a + (if zv μ 1 t = b then zprice μ t - zv μ 3 t else 0) + (if zv μ 2 t = b then zv μ 3 t else 0) else a
def zturn (μ : zS) (b : Int32) : Int32 := zf (zturnF μ b) (zn μ) 0
def zop_turnover (μ : zS) (b : Int32) : zR := if zin b 7 = true then (zturn μ b, 0, μ) else (0, 1, μ)
def zwonF (μ : zS) (b : Int32) (t : Nat) (a : Int32) : Int32 := a + zb (zv μ 0 t == 1 && zv μ 1 t == b)
def zop_won (μ : zS) (b : Int32) : zR := if zin b 7 = true then (zf (zwonF μ b) (zn μ) 0, 0, μ) else (0, 1, μ)
def zlastF (μ : zS) (a b : Nat) (k : Nat) (z : Int32) : Int32 := if (zv μ 0 k == 1 && zst μ k a && zst μ k b) = true then nI k else z
def zlast (μ : zS) (t a b : Nat) : Int32 := zf (zlastF μ a b) t (-1)
/-- whether the last tender ahead of t in which both stand was won by c -/
def ztq (μ : zS) (t a b : Nat) (c : Int32) : Bool := !(zlast μ t a b == -1) && zv μ 1 (zx (zlast μ t a b)) == c
/-- of tender t: who won it is 'by', the other of the pair 'ot' -/
def zsig (μ : zS) (t : Nat) (by_ ot : Int32) : Int32 :=
  (if (zst μ t (zx ot) && decide (0 < zv μ 4 (7 * t + zx ot) - zprice μ t) && decide (zv μ 4 (7 * t + zx ot) - zprice μ t ≤ zprice μ t * 5 / 100)) = true then 2 else 0)
  + (if (zv μ 2 t == ot && decide (0 < zv μ 4 (7 * t + zx ot))) = true then 3 else 0)
  + zb (!(zv μ 5 (7 * t + zx ot) == 0))
  + (if (zst μ t (zx ot) && ztq μ t (zx by_) (zx ot) ot) = true then 4 else 0)
def zsign (μ : zS) (t : Nat) (a b : Int32) : Int32 :=
  if (zv μ 0 t == 1 && (zv μ 1 t == a || zv μ 1 t == b)) = false then 0
  else zsig μ t (zv μ 1 t) (if zv μ 1 t = a then b else a)
def zsuspF (μ : zS) (a b : Int32) (t : Nat) (z : Int32) : Int32 := z + zsign μ t a b
def zsusp (μ : zS) (a b : Int32) : Int32 := zf (zsuspF μ a b) (zn μ) 0
def zpair (a b : Int32) : Bool := zin a 7 && zin b 7 && !(a == b)
def zop_suspicion (μ : zS) (a b : Int32) : zR := if zpair a b = true then (zsusp μ a b, 0, μ) else (0, 1, μ)
def zop_sign (μ : zS) (t a b : Int32) : zR := if zin t (zn μ) = false then (0, 1, μ) else if zpair a b = true then (zsign μ (zx t) a b, 0, μ) else (0, 2, μ)
def zop_setMark (μ : zS) (x : Int32) : zR := if (decide (1 ≤ x) && decide (x ≤ 1000)) = true then (zv μ 6 0, 0, zset μ 6 0 x) else (0, 1, μ)
/-- the worst pair so far and its suspicion -/
def zworF (μ : zS) (a b : Nat) (z : Int32 × Int32) : Int32 × Int32 := if z.2 < zsusp μ (nI a) (nI b) then (10 * nI a + nI b, zsusp μ (nI a) (nI b)) else z
def zworG (μ : zS) (a : Nat) (z : Int32 × Int32) : Int32 × Int32 := zf (fun d => zworF μ a (a + 1 + d)) (6 - a) z
def zworst (μ : zS) : Int32 := (zf (zworG μ) 7 (-1, 0)).1
def zhadF (μ : zS) (lo hi : Int32) (f : Nat) (z : Bool) : Bool := z || (zv μ 7 f == lo && zv μ 8 f == hi)
def zhad (μ : zS) (lo hi : Int32) : Bool := zf (zhadF μ lo hi) (zg μ) false
def zmlF (μ : zS) (a b : Int32) (t : Nat) (l : List Nat) : List Nat := if 0 < zsign μ t a b then l ++ [t] else l
def zml (μ : zS) (a b : Int32) : List Nat := zf (zmlF μ a b) (zn μ) []
def zop_file (μ : zS) (a b : Int32) : zR :=
  if zpair a b = false then (0, 1, μ)
  else if (zhad μ (zs_min a b) (zs_max a b) || zg μ == 20 || decide (zsusp μ a b < zv μ 6 0)) = true then (0, 2, μ)
  else (nI (zg μ), 0, zsetg (zsetm (zset (zset (zset μ 7 (zg μ) (zs_min a b)) 8 (zg μ) (zs_max a b)) 9 (zg μ) (-1)) (zg μ) (zml μ a b)) (zg μ + 1))
def zop_matters (μ : zS) (f : Int32) : zR := if zin f (zg μ) = true then (nI (zmt μ (zx f)).length, 0, μ) else (0, 1, μ)
def zof (μ : zS) (f : Nat) (b : Int32) : Bool := b == zv μ 7 f || b == zv μ 8 f
def ztellc (μ : zS) (f b t : Int32) : Int32 := if (zin f (zg μ) && zin t (zn μ)) = false then 1 else if zof μ (zx f) b = false then 2 else if zv μ 12 (zx f) = 0 then 0 else 3
def zfresh (μ : zS) (f b t : Int32) : Bool := ztellc μ f b t == 0 && (decide (zx t ∈ zmt μ (zx f)) && !decide (zx t ∈ ztd μ (zx f)))
def zside (μ : zS) (f : Nat) (b : Int32) : Nat := 2 * f + (if b = zv μ 7 f then 0 else 1)
def ztold (μ : zS) (f t : Nat) (b : Int32) : zS := zset (zset (zsett μ f (ztd μ f ++ [t])) 9 f (if zv μ 9 f = -1 then b else zv μ 9 f)) 10 (zside μ f b) (zv μ 10 (zside μ f b) + 1)
def zop_tell (μ : zS) (f b t : Int32) : zR := (zb (zfresh μ f b t), ztellc μ f b t, if zfresh μ f b t = true then ztold μ (zx f) (zx t) b else μ)
def zop_compensate (μ : zS) (b x : Int32) : zR := if (zin b 7 && zmo x) = false then (0, 1, μ) else (zv μ 13 (zx b) + x, 0, zset μ 13 (zx b) (zv μ 13 (zx b) + x))
/-- the fine of b in file f, ahead of what was paid; n: its new tellings -/
def zits (μ : zS) (f : Nat) (b n : Int32) : Int32 := if zv μ 9 f = b then (if nI (zmt μ f).length ≤ 2 * n then 0 else zturn μ b / 10 / 2) else zturn μ b / 10 - (if 0 < n then zturn μ b / 10 / 4 else 0)
def zless (μ : zS) (f : Nat) (b n : Int32) : Int32 := zs_min (zits μ f b n) (zv μ 13 (zx b))
def zdue (μ : zS) (f : Nat) (b n : Int32) : Int32 := zits μ f b n - zless μ f b n
def zpay (μ : zS) (f : Nat) (b n : Int32) : zS := zset μ 13 (zx b) (zv μ 13 (zx b) - zless μ f b n)
def zcl1 (μ : zS) (f : Nat) : zS := zset (zpay μ f (zv μ 7 f) (zv μ 10 (2 * f))) 11 (2 * f) (zdue μ f (zv μ 7 f) (zv μ 10 (2 * f)))
def zcl2 (μ : zS) (f : Nat) : zS := zset (zpay (zcl1 μ f) f (zv μ 8 f) (zv μ 10 (2 * f + 1))) 11 (2 * f + 1) (zdue (zcl1 μ f) f (zv μ 8 f) (zv μ 10 (2 * f + 1)))
def zop_close (μ : zS) (f : Int32) : zR :=
  if zin f (zg μ) = false then (0, 1, μ) else if zv μ 12 (zx f) = 0 then
    (zdue μ (zx f) (zv μ 7 (zx f)) (zv μ 10 (2 * zx f)) + zdue (zcl1 μ (zx f)) (zx f) (zv μ 8 (zx f)) (zv μ 10 (2 * zx f + 1)), 0, zset (zcl2 μ (zx f)) 12 (zx f) 1)
  else (0, 2, μ)
def zop_fine (μ : zS) (f b : Int32) : zR := if zin f (zg μ) = false then (0, 1, μ) else if zof μ (zx f) b = true then (zv μ 11 (zside μ (zx f) b), 0, μ) else (0, 2, μ)
def zop_firstTeller (μ : zS) (f : Int32) : zR := if zin f (zg μ) = true then (zv μ 9 (zx f), 0, μ) else (0, 1, μ)
/-! small facts -/
theorem zx_n {j : Nat} (h : j < 2 ^ 31) : zx (nI j) = j := nI_clamp h
theorem zx_7 (t b : Nat) : (7 : Int32) * nI t + nI b = nI (7 * t + b) := by
  rw [show (7 : Int32) = nI 7 by decide, pk_mul, nI_add]
theorem zx_2 (f : Nat) : (2 : Int32) * nI f = nI (2 * f) := by rw [show (2 : Int32) = nI 2 by decide, pk_mul]
theorem zx_21 (f : Nat) : (2 : Int32) * nI f + 1 = nI (2 * f + 1) := by rw [zx_2, nI_1]
theorem zin_le {x : Int32} {n : Nat} (hn : n < 2 ^ 30) : zin x n = (decide (0 ≤ x) && decide (x ≤ nI n - 1)) := by
  have h1 : (nI n - 1).toInt = (n : Int) - 1 := by
    have := pk_sub_toInt (a := n) (b := 1) hn (by decide)
    rw [show nI 1 = 1 by decide] at this
    omega
  have h2 : (nI n).toInt = (n : Int) := nI_toInt (by omega)
  unfold zin
  congr 1
  rw [decide_eq_decide, Int32.lt_iff_toInt_lt, Int32.le_iff_toInt_le, h1, h2]
  omega
theorem zin_7 {x : Int32} : zin x 7 = (decide (0 ≤ x) && decide (x ≤ 6)) := by rw [zin_le (by decide)]; rfl

