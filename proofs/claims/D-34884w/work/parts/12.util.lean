/-! names for what is computed; arrays read by natural numbers; rooms; flags; folds -/
set_option maxRecDepth 100000
def zw_le : List (Option Value) → List (Option Value) → Prop
  | [], _ => True
  | _ :: _, [] => False
  | none :: t, _ :: t' => zw_le t t'
  | some v :: t, o :: t' => o = some v ∧ zw_le t t'
theorem zw_le_at : ∀ (l' l : List (Option Value)), zw_le l' l → ∀ (i : Nat) (v : Value), l'[i]? = some (some v) → l[i]? = some (some v)
  | [], _, _, i, v, h => by simp at h
  | a :: t, [], hl, i, v, h => by cases a <;> exact absurd hl (by simp [zw_le])
  | none :: t, b :: t', hl, i, v, h => by
    cases i with
    | zero => simp at h
    | succ i => simp only [List.getElem?_cons_succ] at h ⊢; exact zw_le_at t t' hl i v h
  | some x :: t, b :: t', hl, i, v, h => by
    obtain ⟨h1, h2⟩ := hl
    cases i with
    | zero => simp only [List.getElem?_cons_zero] at h ⊢; rw [h1]; exact h
    | succ i => simp only [List.getElem?_cons_succ] at h ⊢; exact zw_le_at t t' h2 i v h
section ZU
variable {X : zw_X} {cc : ByteArray} {nL : Nat} {own : String} {rm : Room} {M M' : zw_M} {c n pc pc' : Nat} {lv lv' : List (Option Value)} {st st' : List Value}
theorem zw_nmi {x : Int32} (k : ∀ y : Int32, y = x → zw_Z X M c n pc lv (.int y :: st)) : zw_Z X M c n pc lv (.int x :: st) := k x rfl
theorem zw_nmM (k : ∀ M' : zw_M, M' = M → zw_Z X M' c n pc lv st) : zw_Z X M c n pc lv st := k M rfl
theorem zw_kp {rest : List Value} {e : Int32} (h : zw_Z X M c n pc lv (.int e :: rest)) : ∀ (v : Option Value) (M1 : zw_M), zw_pi (fun r M1 => r = e ∧ M1 = M) v M1 → zw_Z X M1 c n pc lv (v.toList ++ rest) := by
  rintro v M1 ⟨r, rfl, rfl, rfl⟩
  exact h
theorem zw_kpv {rest : List Value} (h : zw_Z X M c n pc lv rest) : ∀ (v : Option Value) (M1 : zw_M), zw_pv (fun M1 => M1 = M) v M1 → zw_Z X M1 c n pc lv (v.toList ++ rest) := by
  rintro v M1 ⟨rfl, rfl⟩
  exact h
theorem zw_kpr {rest : List Value} {e : Option Nat} (h : zw_Z X M c n pc lv (va_rf e :: rest)) : ∀ (v : Option Value) (M1 : zw_M), zw_pr (fun r M1 => r = e ∧ M1 = M) v M1 → zw_Z X M1 c n pc lv (v.toList ++ rest) := by
  rintro v M1 ⟨r, rfl, rfl, rfl⟩
  exact h
theorem zw_weakL (h : zw_le lv' lv) (k : zw_Z X M c n pc lv' st) : zw_Z X M c n pc lv st := zw_weak (zw_le_at lv' lv h) k
theorem zw_to (h1 : lv = lv') (h2 : st = st') (k : zw_Z X M c n pc lv' st') : zw_Z X M c n pc lv st := by rw [h1, h2]; exact k
theorem zn_in {i : Int32} {j m : Nat} (hi : i = nI j) (hj : j < m) (hm : m < 2 ^ 31 := by decide) : vp_in i m ∧ i.toNatClampNeg = j := by
  subst hi
  exact ⟨vp_in_nI hj hm, nI_clamp (by omega)⟩

theorem zn_iald (K : zw_K X cc nL own rm) {a m j : Nat} {f : Nat → Int32} {i : Int32} {v : Int32} (hM : M a = some (.inl (.inl (zw_k (zw_Xw X) 0, m, .inl f)))) (hi : i = nI j) (hj : j < m) (hv : f j = v) (hd : decode cc pc = .ok (.iaload, 1)) (hp : pc + 1 = pc') (k : zw_Z X M c n pc' lv (.int v :: st)) (hm : m < 2 ^ 31 := by decide) : zw_Z X M c n pc lv (.int i :: .ref a :: st) :=
  zw_iald K hM (zn_in hi hj hm).1 (by rw [(zn_in hi hj hm).2]; exact hv) hd hp k
theorem zn_zald (K : zw_K X cc nL own rm) {a m j : Nat} {f : Nat → Int32} {i : Int32} {v : Int32} (hM : M a = some (.inl (.inl (zw_k (zw_Xw X) 1, m, .inl f)))) (hi : i = nI j) (hj : j < m) (hv : f j = v) (hd : decode cc pc = .ok (.baload, 1)) (hp : pc + 1 = pc') (k : zw_Z X M c n pc' lv (.int v :: st)) (hm : m < 2 ^ 31 := by decide) : zw_Z X M c n pc lv (.int i :: .ref a :: st) :=
  zw_zald K hM (zn_in hi hj hm).1 (by rw [(zn_in hi hj hm).2]; exact hv) hd hp k
theorem zn_lald (K : zw_K X cc nL own rm) {a m j : Nat} {f : Nat → Int64} {i : Int32} {v : Int64} (hM : M a = some (.inl (.inl (zw_k (zw_Xw X) 2, m, .inr (.inl f))))) (hi : i = nI j) (hj : j < m) (hv : f j = v) (hd : decode cc pc = .ok (.laload, 1)) (hp : pc + 1 = pc') (k : zw_Z X M c n pc' lv (.long v :: st)) (hm : m < 2 ^ 31 := by decide) : zw_Z X M c n pc lv (.int i :: .ref a :: st) :=
  zw_lald K hM (zn_in hi hj hm).1 (by rw [(zn_in hi hj hm).2]; exact hv) hd hp k
theorem zn_iast (K : zw_K X cc nL own rm) {a m j : Nat} {f : Nat → Int32} {i : Int32} {x : Int32} (hM : M a = some (.inl (.inl (zw_k (zw_Xw X) 0, m, .inl f)))) (hi : i = nI j) (hj : j < m) (hd : decode cc pc = .ok (.iastore, 1)) (hp : pc + 1 = pc') (k : zw_Z X (zw_u M a (.inl (.inl (zw_k (zw_Xw X) 0, m, .inl (upd f j x))))) c n pc' lv st) (hm : m < 2 ^ 31 := by decide) : zw_Z X M c n pc lv (.int x :: .int i :: .ref a :: st) :=
  zw_iast K hM (zn_in hi hj hm).1 hd hp (by rw [(zn_in hi hj hm).2]; exact k)
theorem zn_zast (K : zw_K X cc nL own rm) {a m j : Nat} {f : Nat → Int32} {i : Int32} {x : Int32} (hM : M a = some (.inl (.inl (zw_k (zw_Xw X) 1, m, .inl f)))) (hi : i = nI j) (hj : j < m) (hx : vp_nar .boolean x = x) (hd : decode cc pc = .ok (.bastore, 1)) (hp : pc + 1 = pc') (k : zw_Z X (zw_u M a (.inl (.inl (zw_k (zw_Xw X) 1, m, .inl (upd f j x))))) c n pc' lv st) (hm : m < 2 ^ 31 := by decide) : zw_Z X M c n pc lv (.int x :: .int i :: .ref a :: st) :=
  zw_zast K hM (zn_in hi hj hm).1 hd hp (by rw [(zn_in hi hj hm).2, hx]; exact k)
theorem zn_last (K : zw_K X cc nL own rm) {a m j : Nat} {f : Nat → Int64} {i : Int32} {x : Int64} (hM : M a = some (.inl (.inl (zw_k (zw_Xw X) 2, m, .inr (.inl f))))) (hi : i = nI j) (hj : j < m) (hd : decode cc pc = .ok (.lastore, 1)) (hp : pc + 1 = pc') (k : zw_Z X (zw_u M a (.inl (.inl (zw_k (zw_Xw X) 2, m, .inr (.inl (vp_updL f j x)))))) c n pc' lv st) (hm : m < 2 ^ 31 := by decide) : zw_Z X M c n pc lv (.long x :: .int i :: .ref a :: st) :=
  zw_last K hM (zn_in hi hj hm).1 hd hp (by rw [(zn_in hi hj hm).2]; exact k)
theorem zn_aaldO (K : zw_K X cc nL own rm) {a m j : Nat} {f : Nat → Option Nat} {i : Int32} {v : Option Nat} (hM : M a = some (zw_eO (zw_Xw X) m f)) (hi : i = nI j) (hj : j < m) (hv : f j = v) (hd : decode cc pc = .ok (.aaload, 1)) (hp : pc + 1 = pc') (k : zw_Z X M c n pc' lv (va_rf v :: st)) (hm : m < 2 ^ 31 := by decide) : zw_Z X M c n pc lv (.int i :: .ref a :: st) :=
  zw_aald K hM (t0 := 3) rfl (zn_in hi hj hm).1 (by rw [(zn_in hi hj hm).2]; exact hv) hd hp k
theorem zn_aaldB (K : zw_K X cc nL own rm) {a m j : Nat} {f : Nat → Option Nat} {i : Int32} {v : Option Nat} (hM : M a = some (zw_eB (zw_Xw X) m f)) (hi : i = nI j) (hj : j < m) (hv : f j = v) (hd : decode cc pc = .ok (.aaload, 1)) (hp : pc + 1 = pc') (k : zw_Z X M c n pc' lv (va_rf v :: st)) (hm : m < 2 ^ 31 := by decide) : zw_Z X M c n pc lv (.int i :: .ref a :: st) :=
  zw_aald K hM (t0 := 4) rfl (zn_in hi hj hm).1 (by rw [(zn_in hi hj hm).2]; exact hv) hd hp k
theorem zn_aastB (K : zw_K X cc nL own rm) {a m j v : Nat} {f : Nat → Option Nat} {vs : List Value} {i : Int32} (hM : M a = some (zw_eB (zw_Xw X) m f)) (hi : i = nI j) (hj : j < m) (hV : M v = some (zw_eC 2 vs)) (hd : decode cc pc = .ok (.aastore, 1)) (hp : pc + 1 = pc') (k : zw_Z X (zw_u M a (zw_eB (zw_Xw X) m (va_up f j (some v)))) c n pc' lv st) (hm : m < 2 ^ 31 := by decide) : zw_Z X M c n pc lv (.ref v :: .int i :: .ref a :: st) :=
  zw_aast K hM (t0 := 4) (rr := (RX4, TX4, 2)) rfl hV rfl (zn_in hi hj hm).1 hd hp (by rw [(zn_in hi hj hm).2]; exact k)
end ZU
abbrev zr (h c s : Nat) : Room := { frames := h, cells := c, slots := s, locals := 40 * h }
abbrev zrl (h c s : Nat) : Room := { frames := h, cells := c, slots := s, locals := 40 * h + 3100 }
/-- a flag as an int -/
def zb (b : Bool) : Int32 := if b then 1 else 0
theorem zb_t : zb true = 1 := rfl
theorem zb_f : zb false = 0 := rfl
theorem zb_nar (b : Bool) : narrow .boolean (.int (zb b)) = .int (zb b) := by cases b <;> rfl
theorem zb_0 {b : Bool} : zb b = 0 ↔ b = false := by cases b <;> decide
theorem zb_nz {b : Bool} : ¬ zb b = 0 ↔ b = true := by cases b <;> decide
theorem zb_1 {b : Bool} : zb b = 1 ↔ b = true := by cases b <;> decide
/-- n steps of f from a: the step i sees its number -/
def zf {α : Type} (f : Nat → α → α) : Nat → α → α
  | 0, a => a
  | n + 1, a => f n (zf f n a)
theorem zf_s {α : Type} (f : Nat → α → α) (n : Nat) (a : α) : zf f (n + 1) a = f n (zf f n a) := rfl
theorem zf_0 {α : Type} (f : Nat → α → α) (a : α) : zf f 0 a = a := rfl
theorem zf_congr {α : Type} {f g : Nat → α → α} {n : Nat} {a : α} (h : ∀ i, i < n → ∀ b, f i b = g i b) : zf f n a = zf g n a := by
  induction n with
  | zero => rfl
  | succ n ih =>
    rw [zf_s, zf_s, ih (fun i hi b => h i (by omega) b), h n (by omega)]
theorem zl_up {P : Nat → Prop} {n : Nat} (h : ∀ i, i ≤ n → (i < n → P (i + 1)) → P i) : ∀ i, i ≤ n → P i := by
  have key : ∀ d i, i + d = n → P i := by
    intro d
    induction d with
    | zero => intro i hi; exact h i (by omega) (fun q => absurd q (by omega))
    | succ d ih => intro i hi; exact h i (by omega) (fun _ => ih (i + 1) (by omega))
  intro i hi
  exact key (n - i) i (by omega)
theorem zi_lt {x y : Int32} {i n : Nat} (hx : x = nI i) (hy : y = nI n) (hi : i ≤ n) (hn : n < 2 ^ 31) (h : ¬ y ≤ x) : i < n := by
  subst hx; subst hy
  rcases Nat.lt_or_ge i n with q | q
  · exact q
  · exact absurd ((nI_leI hn (by omega)).mpr q) h
theorem zi_ge {x y : Int32} {i n : Nat} (hx : x = nI i) (hy : y = nI n) (hi : i ≤ n) (hn : n < 2 ^ 31) (h : y ≤ x) : i = n := by
  subst hx; subst hy
  have := (nI_leI hn (by omega)).mp h
  omega
/-- what is known of a place in range, as an int -/
theorem zi_pos {n : Nat} (h : n < 2 ^ 31) : ¬ (nI n < 0) := nI_pos h

