set_option maxRecDepth 100000
set_option linter.unusedSimpArgs false
set_option linter.unusedVariables false

/-! PURE Ya: crews, LeftBehind's search -/
/-- whether a man may go so -/
def okd_z (R : Nat → Int32) (f m g : Nat) : Bool := decide (g = 0) || (decide (R (6 + m) = 0) && decide (g ≤ f))
def pv_z (R : Nat → Int32) (f : Nat) : Nat → Nat → Bool
  | 0, _ => true
  | k + 1, c => pv_z R f k (c / 4) && okd_z R f k (c % 4)
/-- where a man is by a code -/
def rvl_z (R : Nat → Int32) : Nat → Nat → Nat → Int32
  | 0, _, i => R (6 + i)
  | k + 1, c, i => if i = k then (if 0 < c % 4 then nI (c % 4) else R (6 + i)) else rvl_z R k (c / 4) i
abbrev So_z : Type := Option (Nat × Nat)
def enS_z (v code : Nat) : So_z → So_z
  | none => some (v, code)
  | some s => if v ≤ s.1 then some s else some (v, code)
def rwC_z (R : Nat → Int32) (n code : Nat) : Nat → Int32 := fun i => if 6 ≤ i ∧ i < 6 + n then rvl_z R n code (i - 6) else R i
def vlC_z (R : Nat → Int32) (n d code : Nat) : Nat → Nat
  | 0 => 0
  | h + 1 => vlC_z R n d code h + if canT_z (rwC_z R n code) n h d = true then 1 else 0
theorem vlC_le_z (R : Nat → Int32) (n d code h : Nat) : vlC_z R n d code h ≤ h := by
  induction h with
  | zero => exact Nat.le_refl _
  | succ h ih => rw [vlC_z]; split <;> omega
def LBf_z (R : Nat → Int32) (n f d : Nat) : Nat → Nat → So_z → So_z
  | 0, c, S => enS_z (vlC_z R n d c f) c S
  | j + 1, c, S => if R (6 + (n - (j + 1))) = 0 then fo_z (fun g => LBf_z R n f d j (4 * c + g)) (f + 1) S else LBf_z R n f d j (4 * c) S
def Gc_z (R : Nat → Int32) (n f d code : Nat) (S : So_z) : So_z := if pv_z R f n code = true then enS_z (vlC_z R n d code f) code S else S
theorem pv_false_z {R : Nat → Int32} {f : Nat} : ∀ j k c b, b < 4 ^ j → pv_z R f k c = false → pv_z R f (k + j) (c * 4 ^ j + b) = false := by
  intro j
  induction j with
  | zero => intro k c b hb h; have : b = 0 := by omega
            subst this; rw [Nat.pow_zero, Nat.mul_one]; exact h
  | succ j ih =>
    intro k c b hb h
    rw [← Nat.add_assoc, pv_z]
    have hp : 4 ^ (j + 1) = 4 * 4 ^ j := by rw [Nat.pow_succ, Nat.mul_comm]
    have e : (c * 4 ^ (j + 1) + b) / 4 = c * 4 ^ j + b / 4 := by
      rw [hp, show c * (4 * 4 ^ j) = 4 * (c * 4 ^ j) by rw [Nat.mul_left_comm], Nat.add_comm, Nat.add_mul_div_left _ _ (by omega), Nat.add_comm]
    rw [e, ih k c (b / 4) (by omega) h]; rfl
theorem cod_fold_z {R : Nat → Int32} {n f d : Nat} (hf : f ≤ 3) : ∀ j c S, j ≤ n → pv_z R f (n - j) c = true → fo_z (fun b => Gc_z R n f d (c * 4 ^ j + b)) (4 ^ j) S = LBf_z R n f d j c S := by
  intro j
  induction j with
  | zero =>
    intro c S _ hp
    show Gc_z R n f d (c * 4 ^ 0 + 0) S = _
    rw [Nat.pow_zero, Nat.mul_one, Nat.add_zero, LBf_z]
    unfold Gc_z; rw [show n - 0 = n from rfl] at hp; rw [if_pos hp]
  | succ j ih =>
    intro c S hj hp
    rw [LBf_z, Nat.pow_succ, fo_mul_z]
    have hlen : n - j = n - (j + 1) + 1 := by omega
    have e : ∀ g b, c * (4 ^ j * 4) + (4 ^ j * g + b) = (4 * c + g) * 4 ^ j + b := fun g b => by
      rw [Nat.add_mul, Nat.mul_comm (4 ^ j) 4, ← Nat.mul_assoc, Nat.mul_comm c 4, Nat.mul_comm (4 ^ j) g]; omega
    have hpg : ∀ g, g < 4 → pv_z R f (n - j) (4 * c + g) = okd_z R f (n - (j + 1)) g := fun g hg => by
      rw [hlen, pv_z, show (4 * c + g) / 4 = c by omega, show (4 * c + g) % 4 = g by omega, hp, Bool.true_and]
    have hin : ∀ g, g < 4 → ∀ S, fo_z (fun b => Gc_z R n f d (c * (4 ^ j * 4) + (4 ^ j * g + b))) (4 ^ j) S = if okd_z R f (n - (j + 1)) g = true then LBf_z R n f d j (4 * c + g) S else S := fun g hg S => by
      rw [fo_congr_z (G := fun b => Gc_z R n f d ((4 * c + g) * 4 ^ j + b)) _ (fun b _ S => by rw [e])]
      by_cases q : okd_z R f (n - (j + 1)) g = true
      · rw [if_pos q]; exact ih _ _ (by omega) (by rw [hpg g hg]; exact q)
      · rw [if_neg q]
        refine fo_id_z _ (fun b hb S => ?_) S
        unfold Gc_z
        rw [if_neg]
        have := pv_false_z j (n - j) (4 * c + g) b hb (by rw [hpg g hg]; exact Bool.eq_false_iff.mpr q)
        rw [Nat.sub_add_cancel (by omega)] at this
        rw [this]; decide
    rw [fo_congr_z 4 (G := fun g S => if okd_z R f (n - (j + 1)) g = true then LBf_z R n f d j (4 * c + g) S else S) (fun g hg S => hin g hg S)]
    by_cases q : R (6 + (n - (j + 1))) = 0
    · rw [if_pos q, ← fo_cut_z (fun g => LBf_z R n f d j (4 * c + g)) (show f < 4 by omega)]
      refine fo_congr_z 4 (fun g hg S => ?_) S
      unfold okd_z
      by_cases h1 : g ≤ f
      · rw [if_pos h1, if_pos (by simp only [q, h1, decide_true, Bool.and_self, Bool.or_true])]
      · rw [if_neg h1, if_neg (by simp only [h1, decide_false, Bool.and_false, Bool.or_false, decide_eq_true_eq]; omega)]
    · rw [if_neg q]
      have := fo_cut_z (fun g => LBf_z R n f d j (4 * c + g)) (show 0 < 4 by omega) S
      rw [show fo_z (fun g => LBf_z R n f d j (4 * c + g)) (0 + 1) S = LBf_z R n f d j (4 * c) S from rfl] at this
      rw [← this]
      refine fo_congr_z 4 (fun g hg S => ?_) S
      unfold okd_z
      by_cases h1 : g ≤ 0
      · rw [if_pos h1, if_pos (by simp only [show g = 0 by omega, decide_true, Bool.true_or])]
      · rw [if_neg h1, if_neg (by simp only [q, decide_false, Bool.false_and, Bool.or_false, decide_eq_true_eq]; omega)]
theorem all_fold_z {R : Nat → Int32} {n f d : Nat} (hf : f ≤ 3) (S : So_z) : fo_z (Gc_z R n f d) (4 ^ n) S = LBf_z R n f d n 0 S := by
  rw [← cod_fold_z hf n 0 S (Nat.le_refl _) (by rw [Nat.sub_self]; rfl)]
  exact fo_congr_z _ (fun b _ S => by rw [Nat.zero_mul, Nat.zero_add]) S
theorem enS_some_z (v c : Nat) (S : So_z) : ∃ s, enS_z v c S = some s := by
  cases S with
  | none => exact ⟨_, rfl⟩
  | some s => unfold enS_z; simp only []; split <;> exact ⟨_, rfl⟩
theorem pv_zero_z (R : Nat → Int32) (f : Nat) : ∀ k, pv_z R f k 0 = true := by
  intro k
  induction k with
  | zero => rfl
  | succ k ih => rw [pv_z, Nat.zero_div, ih]; rfl
theorem fold_some_z {R : Nat → Int32} {n f d : Nat} (S : So_z) : ∀ k, ∃ s, fo_z (Gc_z R n f d) (k + 1) S = some s := by
  intro k
  induction k with
  | zero => show ∃ s, Gc_z R n f d 0 S = some s; unfold Gc_z; rw [if_pos (pv_zero_z R f n)]; exact enS_some_z _ _ _
  | succ k ih =>
    obtain ⟨s, e⟩ := ih
    rw [fo_z, e]; unfold Gc_z; split
    · exact enS_some_z _ _ _
    · exact ⟨s, rfl⟩
/-- places by a code -/
theorem rvl_hi_z (R : Nat → Int32) : ∀ k c i, k ≤ i → rvl_z R k c i = R (6 + i) := by
  intro k
  induction k with
  | zero => intro c i _; rfl
  | succ k ih => intro c i h; rw [rvl_z, if_neg (by omega), ih _ _ (by omega)]
theorem rvl_ok_z {R : Nat → Int32} {n f : Nat} (iv : Iv_z R n f) : ∀ k c i, pv_z R f k c = true → k ≤ n → i < n → ∃ p, p ≤ f ∧ rvl_z R k c i = nI p := by
  intro k
  induction k with
  | zero => intro c i _ _ hi; exact iv.pl i hi
  | succ k ih =>
    intro c i hp hk hi
    rw [pv_z, Bool.and_eq_true] at hp
    rw [rvl_z]
    by_cases q : i = k
    · rw [if_pos q]
      by_cases h0 : 0 < c % 4
      · rw [if_pos h0]
        have := hp.2
        unfold okd_z at this
        simp only [Bool.or_eq_true, Bool.and_eq_true, decide_eq_true_eq] at this
        exact ⟨c % 4, by omega, rfl⟩
      · rw [if_neg h0]; exact iv.pl i hi
    · rw [if_neg q]; exact ih _ _ hp.1 (by omega) hi
theorem rwC_pl_z (R : Nat → Int32) (n code : Nat) {m : Nat} (h : m < n) : rwC_z R n code (6 + m) = rvl_z R n code m := by
  unfold rwC_z; rw [if_pos (by omega), Nat.add_sub_cancel_left]
theorem rwC_o_z (R : Nat → Int32) (n code i : Nat) (hn : n ≤ 8) (h : i < 6 ∨ 14 ≤ i) : rwC_z R n code i = R i := if_neg (by omega)
theorem rwC_iv_z {R : Nat → Int32} {n f code : Nat} (iv : Iv_z R n f) (hp : pv_z R f n code = true) : Iv_z (rwC_z R n code) n f := by
  have hn := iv.n8; have := iv.f3
  refine ⟨iv.n8, iv.f3, ?_, ?_, ?_, ?_, ?_, ?_, ?_, ?_⟩
  · rw [rwC_o_z _ _ _ _ hn (by omega)]; exact iv.t0
  · rw [rwC_o_z _ _ _ _ hn (by omega)]; exact iv.t1
  · intro m hm; rw [rwC_pl_z _ _ _ hm]; exact rvl_ok_z iv n code m hp (Nat.le_refl _) hm
  · intro m hm; rw [rwC_o_z _ _ _ _ hn (by omega)]; exact iv.cl m hm
  · intro m hm hq; rw [rwC_o_z _ _ _ _ hn (by omega)]; exact iv.cz m hm hq
  · intro m hm; rw [rwC_o_z _ _ _ _ hn (by omega)]; exact iv.so m hm
  · intro m hm; rw [rwC_o_z _ _ _ _ hn (by omega)]; exact iv.kd m hm
  · intro m hm; rw [rwC_o_z _ _ _ _ hn (by omega)]; exact iv.sk m hm
