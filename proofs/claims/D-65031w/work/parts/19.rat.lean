/-! fractions as rational numbers -/
def sg (mi : Bool) (a : Nat) : Int := if mi = true then -(a : Int) else a
def isQ (mi : Bool) (a b : Nat) (x : Rat) : Prop := a = x.num.natAbs ∧ b = x.den ∧ (a ≠ 0 → (mi = true ↔ x.num < 0))
theorem sg_abs (mi : Bool) (a : Nat) : (sg mi a).natAbs = a := by unfold sg; split <;> omega
theorem sg_0 (mi : Bool) : sg mi 0 = 0 := by unfold sg; split <;> rfl
theorem isQ.pos {mi : Bool} {a b : Nat} {x : Rat} (h : isQ mi a b x) : 0 < b := by rw [h.2.1]; exact x.den_pos
theorem isQ.num {mi : Bool} {a b : Nat} {x : Rat} (h : isQ mi a b x) : x.num = sg mi a := by
  obtain ⟨h1, h2, h3⟩ := h
  unfold sg
  by_cases e : a = 0
  · split <;> omega
  · have := h3 e
    split
    · rename_i hm; have := this.mp hm; omega
    · rename_i hm
      have : ¬ x.num < 0 := fun q => hm (this.mpr q)
      omega
theorem isQ.eqs {mi : Bool} {a b : Nat} {x : Rat} (h : isQ mi a b x) : mkRat (sg mi a) b = x := by
  rw [← h.num, h.2.1]; exact Rat.mkRat_self x
theorem isQ_0 {mi : Bool} : isQ mi 0 1 0 := ⟨rfl, rfl, fun h => absurd rfl h⟩
theorem isQ_mk {mi : Bool} {a b : Nat} (hb : 0 < b) : isQ mi (a / a.gcd b) (b / a.gcd b) (mkRat (sg mi a) b) := by
  have hg : 0 < a.gcd b := Nat.gcd_pos_of_pos_right a hb
  have e1 : (mkRat (sg mi a) b).num = sg mi a / (a.gcd b : Nat) := by
    rw [Rat.num_mkRat, if_neg (by omega), sg_abs, Nat.gcd_comm]
  have e2 : sg mi a / ((a.gcd b : Nat) : Int) = sg mi (a / a.gcd b) := by
    unfold sg
    obtain ⟨k, hk⟩ := Nat.gcd_dvd_left a b
    have hq : a / a.gcd b = k := Nat.div_eq_of_eq_mul_right hg hk
    have hk' : (a : Int) = ((a.gcd b : Nat) : Int) * (k : Int) := by rw [← Int.natCast_mul, ← hk]
    rw [hq]
    split
    · rw [hk', ← Int.mul_neg, Int.mul_ediv_cancel_left _ (by omega)]
    · rw [hk', Int.mul_ediv_cancel_left _ (by omega)]
  refine ⟨by rw [e1, e2, sg_abs], by rw [Rat.den_mkRat, if_neg (by omega), sg_abs, Nat.gcd_comm], fun h => ?_⟩
  rw [e1, e2]
  clear e1 e2
  generalize a / a.gcd b = k at *
  unfold sg
  split
  · rename_i hm; exact ⟨fun _ => by omega, fun _ => hm⟩
  · rename_i hm; exact ⟨fun q => absurd q hm, fun q => by omega⟩
/-- limbs of a fraction's two parts -/
def bdq (x : Rat) (i j : Nat) : Prop := (x.num.natAbs : Int) < pw i ∧ (x.den : Int) < pw j
theorem bdq_mk {n : Int} {d i j : Nat} (h1 : (n.natAbs : Int) < pw i) (h2 : (d : Int) < pw j) (h0 : 0 < d) : bdq (mkRat n d) i j := by
  have hg : 0 < d.gcd n.natAbs := Nat.gcd_pos_of_pos_left _ h0
  constructor
  · rw [Rat.num_mkRat, if_neg (by omega), Int.natAbs_ediv_of_dvd (by rw [← Int.dvd_natAbs]; exact Int.ofNat_dvd.mpr (Nat.gcd_dvd_right _ _)), Int.natAbs_natCast]
    have := Nat.div_le_self n.natAbs (d.gcd n.natAbs)
    omega
  · rw [Rat.den_mkRat, if_neg (by omega)]
    have := Nat.div_le_self d (d.gcd n.natAbs)
    omega
theorem isQ.bd {mi : Bool} {a b i j : Nat} {x : Rat} (h : isQ mi a b x) (hb : bdq x i j) : (a : Int) < pw i ∧ (b : Int) < pw j := by rw [h.1, h.2.1]; exact hb
theorem bdq_le {x : Rat} {i j i' j' : Nat} (h : bdq x i j) (h1 : i ≤ i') (h2 : j ≤ j') : bdq x i' j' := ⟨Int.lt_of_lt_of_le h.1 (pow_le h1), Int.lt_of_lt_of_le h.2 (pow_le h2)⟩
theorem mul_lt_pw {a b i j : Nat} (ha : (a : Int) < pw i) (hb : (b : Int) < pw j) : ((a * b : Nat) : Int) < pw (i + j) := by
  rw [pw_add, Int.natCast_mul]
  have h1 : (a : Int) * b ≤ a * pw j := Int.mul_le_mul_of_nonneg_left (by omega) (by omega)
  have h2 : ((a : Int) + 1) * pw j ≤ pw i * pw j := Int.mul_le_mul_of_nonneg_right (by omega) (Int.le_of_lt (pw_pos j))
  rw [Int.add_mul] at h2
  have := pw_pos j
  omega
theorem add_lt_pw {a b m : Nat} (ha : (a : Int) < pw m) (hb : (b : Int) < pw m) : ((a + b : Nat) : Int) < pw (m + 1) := by
  rw [pw_s]; omega
/-- the signed sum of two magnitudes, as the code makes it -/
theorem sg_same (mi : Bool) (A B : Nat) : sg mi A + sg mi B = sg mi (A + B) := by unfold sg; split <;> omega
theorem sg_diff {mi mo : Bool} (h : mi ≠ mo) {A B : Nat} (hab : B ≤ A) : sg mi A + sg mo B = sg mi (A - B) := by
  cases mi <;> cases mo <;> simp [sg] at * <;> omega
theorem sg_diff2 {mi mo : Bool} (h : mi ≠ mo) {A B : Nat} (hab : A ≤ B) : sg mi A + sg mo B = sg mo (B - A) := by
  rw [Int.add_comm]; exact sg_diff (Ne.symm h) hab
theorem sg_mul (mi : Bool) (a c : Nat) : sg mi a * (c : Int) = sg mi (a * c) := by
  unfold sg
  split
  · rw [Int.natCast_mul, Int.neg_mul]
  · rw [Int.natCast_mul]
theorem sg_sg (mi mo : Bool) (a c : Nat) : sg mi a * sg mo c = sg (mi != mo) (a * c) := by
  cases mi <;> cases mo <;> simp [sg, Int.natCast_mul, Int.neg_mul, Int.mul_neg]
/-- y, or less y -/
def lsq (less : Bool) (y : Rat) : Rat := if less = true then -y else y
theorem isQ.lsq {mo less : Bool} {c e : Nat} {y : Rat} (h : isQ mo c e y) : (lsq less y).num = sg (mo != less) c ∧ (lsq less y).den = e := by
  have hn := h.num
  have hd := h.2.1
  cases less
  · simp only [CMetreFractionsLaw_law_r7320_4153a6.lsq, Bool.false_eq_true, if_false]
    exact ⟨by rw [hn]; cases mo <;> rfl, hd.symm⟩
  · simp only [CMetreFractionsLaw_law_r7320_4153a6.lsq, if_true]
    refine ⟨?_, hd.symm⟩
    show -y.num = _
    rw [hn]
    cases mo <;> simp [sg]
theorem add_eq {mi mo less : Bool} {a b c e : Nat} {x y : Rat} (hx : isQ mi a b x) (hy : isQ mo c e y) : x + lsq less y = mkRat (sg mi (a * e) + sg (mo != less) (c * b)) (b * e) := by
  rw [Rat.add_def', (hy.lsq (less := less)).1, (hy.lsq (less := less)).2, hx.num, ← hx.2.1, sg_mul, sg_mul]
theorem mul_eq {mi mo : Bool} {a b c e : Nat} {x y : Rat} (hx : isQ mi a b x) (hy : isQ mo c e y) : x * y = mkRat (sg (mi != mo) (a * c)) (b * e) := by
  rw [Rat.mul_def', hx.num, hy.num, ← hx.2.1, ← hy.2.1, sg_sg]
theorem div_eq {mi mo : Bool} {a b c e : Nat} {x y : Rat} (hx : isQ mi a b x) (hy : isQ mo c e y) (h0 : c ≠ 0) : x / y = mkRat (sg (mi != mo) (a * e)) (b * c) := by
  have hn := hy.num
  have hyn : y.num ≠ 0 := by have := hy.1; omega
  rw [Rat.div_def, Rat.mul_def', Rat.num_inv, Rat.den_inv, if_neg hyn, ← hy.1, ← hx.2.1, hx.num, ← hy.2.1]
  congr 1
  have : y.num.sign = sg mo 1 := by
    rw [hn]
    unfold sg
    split
    · rw [Int.sign_neg, Int.sign_eq_one_of_pos (by omega)]; rfl
    · rw [Int.sign_eq_one_of_pos (by omega)]; rfl
  rw [this, sg_mul, sg_sg, Nat.one_mul]
/-- k times, a k-th of x -/
theorem tim_eq {mi : Bool} {a b : Nat} {x : Rat} (hx : isQ mi a b x) (k : Nat) : x * (k : Rat) = mkRat (sg mi (a * k)) b := by
  rw [Rat.mul_def', hx.num, ← hx.2.1]
  show mkRat (sg mi a * (k : Int)) (b * 1) = _
  rw [sg_mul, Nat.mul_one]
theorem ovr_eq {mi : Bool} {a b : Nat} {x : Rat} (hx : isQ mi a b x) {k : Nat} (hk : k ≠ 0) : x / (k : Rat) = mkRat (sg mi a) (b * k) := by
  have hy : isQ false k 1 (k : Rat) := ⟨rfl, rfl, fun _ => ⟨fun h => (by cases h), fun h => by have : ((k : Int)) < 0 := h; omega⟩⟩
  rw [div_eq hx hy hk, Nat.mul_one]
  cases mi <;> rfl
theorem bdq_add {x y : Rat} {i j i' j' m : Nat} (hx : bdq x i j) (hy : bdq y i' j') (h1 : i + j' ≤ m) (h2 : i' + j ≤ m) (less : Bool) : bdq (x + lsq less y) (m + 1) (j + j') := by
  have e1 : (lsq less y).num.natAbs = y.num.natAbs := by cases less <;> simp [lsq]
  have e2 : (lsq less y).den = y.den := by cases less <;> simp [lsq]
  rw [Rat.add_def', e2]
  refine bdq_mk ?_ (mul_lt_pw hx.2 hy.2) (Nat.mul_pos x.den_pos y.den_pos)
  have t1 := mul_lt_pw hx.1 hy.2
  have t2 := mul_lt_pw hy.1 hx.2
  have t3 := add_lt_pw (Int.lt_of_lt_of_le t1 (pow_le h1)) (Int.lt_of_lt_of_le t2 (pow_le h2))
  have t4 : (x.num * (y.den : Int) + (lsq less y).num * (x.den : Int)).natAbs ≤ x.num.natAbs * y.den + y.num.natAbs * x.den := by
    refine Nat.le_trans (Int.natAbs_add_le _ _) ?_
    rw [Int.natAbs_mul, Int.natAbs_mul, e1, Int.natAbs_natCast, Int.natAbs_natCast]
    exact Nat.le_refl _
  omega
theorem bdq_mul {x y : Rat} {i j i' j' : Nat} (hx : bdq x i j) (hy : bdq y i' j') : bdq (x * y) (i + i') (j + j') := by
  rw [Rat.mul_def']
  refine bdq_mk ?_ (mul_lt_pw hx.2 hy.2) (Nat.mul_pos x.den_pos y.den_pos)
  rw [Int.natAbs_mul]
  exact mul_lt_pw hx.1 hy.1
def czr (x y : Rat) : Int := if x < y then -1 else if x = y then 0 else 1
theorem czr_eq (x y : Rat) : czr x y = cz (x.num * y.den) (y.num * x.den) := by
  unfold czr cz
  by_cases h : x < y
  · rw [if_pos h, if_pos ((Rat.lt_iff x y).mp h)]
  · rw [if_neg h, if_neg (fun q => h ((Rat.lt_iff x y).mpr q))]
    by_cases e : x = y
    · rw [if_pos e, if_pos (Rat.eq_iff_mul_eq_mul.mp e)]
    · rw [if_neg e, if_neg (fun q => e (Rat.eq_iff_mul_eq_mul.mpr q))]
/-- the sign, -1, 0 or 1 -/
def sgn (mi : Bool) (a : Nat) : Int := if a = 0 then 0 else if mi = true then -1 else 1
theorem sgn_in (mi : Bool) (a : Nat) : sgn mi a = -1 ∨ sgn mi a = 0 ∨ sgn mi a = 1 := by unfold sgn; split <;> (try split) <;> simp
/-- comparing by signs, then by cross products -/
theorem czr_sgn {mi mo : Bool} {a b c e : Nat} {x y : Rat} (hx : isQ mi a b x) (hy : isQ mo c e y) :
    czr x y = if sgn mi a ≠ sgn mo c then cz (sgn mi a) (sgn mo c) else if mi = true then cz ((c * b : Nat) : Int) ((a * e : Nat) : Int) else cz ((a * e : Nat) : Int) ((c * b : Nat) : Int) := by
  have hb := hx.pos
  have he := hy.pos
  rw [czr_eq, hx.num, hy.num, ← hx.2.1, ← hy.2.1, sg_mul, sg_mul]
  have z1 : a * e = 0 ↔ a = 0 := by rw [Nat.mul_eq_zero]; omega
  have z2 : c * b = 0 ↔ c = 0 := by rw [Nat.mul_eq_zero]; omega
  generalize a * e = A at *
  generalize c * b = B at *
  unfold sgn sg cz
  by_cases ha : a = 0 <;> by_cases hc : c = 0 <;> cases mi <;> cases mo <;> simp [ha, hc] at * <;> (repeat' split) <;> omega
