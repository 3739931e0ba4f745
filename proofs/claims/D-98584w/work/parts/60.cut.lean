/-! the plain law of pieces cut from a roll -/
/-- the greatest of so many -/
def cu_mx (f : Nat → Nat) (n : Nat) : Nat := it (fun k a => max a (f k)) n 0
theorem cu_mx_le {f : Nat → Nat} {n b : Nat} (h : ∀ k < n, f k ≤ b) : cu_mx f n ≤ b := it_ind (P := fun a => a ≤ b) (Nat.zero_le b) fun k hk _ ha => Nat.max_le.mpr ⟨ha, h k hk⟩
theorem cu_le_mx {f : Nat → Nat} {n k : Nat} (h : k < n) : f k ≤ cu_mx f n := by
  unfold cu_mx
  induction n with
  | zero => omega
  | succ n ih =>
    rw [it_s]
    by_cases hk : k = n
    · subst hk; exact Nat.le_max_right _ _
    · exact Nat.le_trans (ih (by omega)) (Nat.le_max_left _ _)
/-- pieces of widths W, lengths H may lie in a roll of width 8, length L -/
def cu_P (n : Nat) (W H : Nat → Nat) (L : Nat) (X Y : Nat → Nat) : Prop := (∀ i, i < n → X i + W i ≤ 8 ∧ Y i + H i ≤ L) ∧ ∀ i, i < n → ∀ j, j < n → i ≠ j → X i + W i ≤ X j ∨ X j + W j ≤ X i ∨ Y i + H i ≤ Y j ∨ Y j + H j ≤ Y i
def cu_F (n : Nat) (W H : Nat → Nat) (L : Nat) : Prop := ∃ X Y : Nat → Nat, cu_P n W H L X Y
/-- how many of the first n are not laid -/
def cu_ct (laid : Nat) : Nat → Nat
  | 0 => 0
  | n + 1 => cu_ct laid n + (if laid.testBit n then 0 else 1)
def cu_sky (sky : Nat → Nat) (x w v : Nat) : Nat → Nat := fun c => if x ≤ c ∧ c < x + w then v else sky c
def cu_lay (n : Nat) (W H : Nat → Nat) : Nat → Nat → (Nat → Nat) → Nat → Nat → Nat
  | 0, _, _, far, least => if least ≤ far then least else far
  | m + 1, laid, sky, far, least => if least ≤ far then least else
    it (fun p acc => if laid.testBit p then acc else
      it (fun x acc => cu_lay n W H m (laid ||| 1 <<< p) (cu_sky sky x (W p) (cu_mx (fun c => sky (x + c)) (W p) + H p)) (max far (cu_mx (fun c => sky (x + c)) (W p) + H p)) acc) (9 - W p) acc) n least
theorem cu_tb {laid p q : Nat} : (laid ||| 1 <<< p).testBit q = (laid.testBit q || decide (p = q)) := by
  rw [Nat.testBit_or, Nat.one_shiftLeft, Nat.testBit_two_pow]
theorem cu_ct_lay {laid p : Nat} (hl : laid.testBit p = false) : ∀ {n : Nat}, cu_ct laid n = cu_ct (laid ||| 1 <<< p) n + (if p < n then 1 else 0) := by
  intro n
  induction n with
  | zero => simp [cu_ct]
  | succ n ih =>
    unfold cu_ct
    rw [ih, cu_tb]
    by_cases h : p = n
    · subst h; simp [hl]
    · by_cases h2 : p < n
      · simp [h, h2, show p < n + 1 by omega]; split <;> omega
      · simp [h, h2, show ¬ p < n + 1 by omega]
theorem cu_ct_0 {laid : Nat} : ∀ {n : Nat}, cu_ct laid n = 0 → ∀ p, p < n → laid.testBit p = true := by
  intro n
  induction n with
  | zero => intro _ p hp; omega
  | succ n ih =>
    intro h p hp
    unfold cu_ct at h
    by_cases hpn : p = n
    · subst hpn
      by_cases hb : laid.testBit p = true
      · exact hb
      · simp [hb] at h
    · exact ih (by omega) p (by omega)
theorem cu_ct_p {laid : Nat} : ∀ {n : Nat}, 0 < cu_ct laid n → ∃ p, p < n ∧ laid.testBit p = false := by
  intro n
  induction n with
  | zero => intro h; simp [cu_ct] at h
  | succ n ih =>
    intro h
    by_cases hb : laid.testBit n = true
    · unfold cu_ct at h
      simp [hb] at h
      obtain ⟨p, h1, h2⟩ := ih h
      exact ⟨p, by omega, h2⟩
    · exact ⟨n, by omega, by simpa using hb⟩
theorem cu_ct_z {n : Nat} : cu_ct 0 n = n := by
  induction n with
  | zero => rfl
  | succ n ih => unfold cu_ct; rw [ih]; simp
/-- the least by a measure -/
theorem cu_min {P : Nat → Prop} (f : Nat → Nat) (h : ∃ p, P p) : ∃ p, P p ∧ ∀ q, P q → f p ≤ f q := by
  obtain ⟨p, hp⟩ := h
  generalize hm : f p = m
  induction m using Nat.strongRecOn generalizing p with
  | _ m ih =>
    by_cases hx : ∃ q, P q ∧ f q < f p
    · obtain ⟨q, h1, h2⟩ := hx
      exact ih (f q) (by rw [← hm]; exact h2) q h1 rfl
    · exact ⟨p, hp, fun q hq => Nat.le_of_not_lt fun h => hx ⟨q, hq, h⟩⟩
section
variable {n : Nat} {W H : Nat → Nat}
theorem cu_lay_le : ∀ {m laid sky far least}, cu_lay n W H m laid sky far least ≤ least := by
  intro m
  induction m with
  | zero => intros; unfold cu_lay; split <;> omega
  | succ m ih =>
    intro laid sky far least
    unfold cu_lay
    split
    · exact Nat.le_refl _
    · refine it_ind (P := fun a => a ≤ least) (Nat.le_refl _) fun p _ a ha => ?_
      split
      · exact ha
      · exact it_ind (P := fun a => a ≤ least) ha fun x _ b hb => Nat.le_trans ih hb
/-- a fold whose steps don't raise is at most what a step makes -/
theorem it_le {f : Nat → Nat → Nat} {n k b a : Nat} (hk : k < n) (hd : ∀ k a, f k a ≤ a) (h : ∀ a, f k a ≤ b) : it f n a ≤ b := by
  induction n with
  | zero => omega
  | succ n ih =>
    rw [it_s]
    by_cases hkn : k = n
    · subst hkn; exact h _
    · exact Nat.le_trans (hd _ _) (ih (by omega))
theorem cu_B {L : Nat} {X Y : Nat → Nat} (hP : cu_P n W H L X Y) (hW : ∀ i < n, 1 ≤ W i) (hH : ∀ i < n, 1 ≤ H i) : ∀ {m laid sky far least}, cu_ct laid n = m → (∀ q < n, laid.testBit q = false → ∀ c, X q ≤ c → c < X q + W q → sky c ≤ Y q) → far ≤ L → cu_lay n W H m laid sky far least ≤ L := by
  intro m
  induction m with
  | zero => intro laid sky far least _ _ hf; unfold cu_lay; split <;> omega
  | succ m ih =>
    intro laid sky far least hc hs hf
    unfold cu_lay
    split
    · omega
    · obtain ⟨p, ⟨hp, hpl⟩, hmin⟩ := cu_min (P := fun p => p < n ∧ laid.testBit p = false) Y (cu_ct_p (by omega))
      refine it_le hp ?_ ?_
      · intro k a
        split
        · exact Nat.le_refl _
        · exact it_ind (P := fun b => b ≤ a) (Nat.le_refl _) fun x _ b hb => Nat.le_trans cu_lay_le hb
      · intro a
        rw [if_neg (by simp [hpl])]
        have hx := hP.1 p hp
        have hw := hW p hp
        refine it_le (k := X p) (by omega) (fun _ _ => cu_lay_le) ?_
        intro b
        have hfrom : cu_mx (fun c => sky (X p + c)) (W p) ≤ Y p := cu_mx_le fun k hk => hs p hp hpl _ (by omega) (by omega)
        refine ih ?_ ?_ ?_
        · have := cu_ct_lay hpl (n := n)
          simp [hp] at this
          omega
        · intro q hq hql c h1 h2
          rw [cu_tb] at hql
          have hql1 : laid.testBit q = false := by
            cases hh : laid.testBit q <;> simp_all
          have hpq : p ≠ q := by
            intro e
            subst e
            simp at hql
          unfold cu_sky
          split
          · rename_i hh
            have h5 := hmin q ⟨hq, hql1⟩
            have h6 := hH q hq
            rcases hP.2 p hp q hq hpq with h | h | h | h <;> omega
          · exact hs q hq hql1 c h1 h2
        · exact Nat.max_le.mpr ⟨hf, by omega⟩
theorem cu_A (hW : ∀ i < n, 1 ≤ W i ∧ W i ≤ 8) : ∀ {m laid : Nat} {sky : Nat → Nat} {far least : Nat} {X Y : Nat → Nat}, cu_ct laid n = m → (∀ q < n, laid.testBit q = true → X q + W q ≤ 8 ∧ Y q + H q ≤ far ∧ ∀ c, X q ≤ c → c < X q + W q → Y q + H q ≤ sky c) → (∀ i < n, ∀ j < n, laid.testBit i = true → laid.testBit j = true → i ≠ j → X i + W i ≤ X j ∨ X j + W j ≤ X i ∨ Y i + H i ≤ Y j ∨ Y j + H j ≤ Y i) → cu_lay n W H m laid sky far least = least ∨ cu_F n W H (cu_lay n W H m laid sky far least) := by
  intro m
  induction m with
  | zero =>
    intro laid sky far least X Y hc h1 h2
    unfold cu_lay
    split
    · exact Or.inl rfl
    · have hl := cu_ct_0 hc
      exact Or.inr ⟨X, Y, fun i hi => ⟨(h1 i hi (hl i hi)).1, (h1 i hi (hl i hi)).2.1⟩, fun i hi j hj => h2 i hi j hj (hl i hi) (hl j hj)⟩
  | succ m ih =>
    intro laid sky far least X Y hc h1 h2
    unfold cu_lay
    split
    · exact Or.inl rfl
    · refine it_ind (P := fun a => a = least ∨ cu_F n W H a) (Or.inl rfl) fun p hp a ha => ?_
      split
      · exact ha
      · rename_i hpl
        have hpl : laid.testBit p = false := by simpa using hpl
        refine it_ind (P := fun a => a = least ∨ cu_F n W H a) ha fun x hx b hb => ?_
        have hw := hW p hp
        generalize hfr : cu_mx (fun c => sky (x + c)) (W p) = fr
        have hfrom : ∀ c, x ≤ c → c < x + W p → sky c ≤ fr := by
          intro c h3 h4
          have := cu_le_mx (f := fun c => sky (x + c)) (n := W p) (k := c - x) (by omega)
          rw [hfr] at this
          simpa [show x + (c - x) = c by omega] using this
        have key := ih (laid := laid ||| 1 <<< p) (sky := cu_sky sky x (W p) (fr + H p)) (far := max far (fr + H p)) (least := b) (X := fun q => if q = p then x else X q) (Y := fun q => if q = p then fr else Y q) ?_ ?_ ?_
        · rcases key with h | h
          · rw [h]; exact hb
          · exact Or.inr h
        · have := cu_ct_lay hpl (n := n)
          simp [hp] at this
          omega
        · intro q hq hql
          by_cases hqp : q = p
          · subst hqp
            simp only [if_true]
            refine ⟨by omega, Nat.le_max_right _ _, fun c h3 h4 => ?_⟩
            unfold cu_sky
            rw [if_pos ⟨h3, h4⟩]
            exact Nat.le_refl _
          · simp only [hqp, if_false]
            rw [cu_tb] at hql
            have hql1 : laid.testBit q = true := by
              cases hh : laid.testBit q <;> simp_all
            obtain ⟨h3, h4, h5⟩ := h1 q hq hql1
            refine ⟨h3, Nat.le_trans h4 (Nat.le_max_left _ _), fun c h6 h7 => ?_⟩
            unfold cu_sky
            split
            · rename_i hh
              have := hfrom c hh.1 hh.2
              have := h5 c h6 h7
              omega
            · exact h5 c h6 h7
        · have hnew : ∀ q < n, laid.testBit q = true → x + W p ≤ X q ∨ X q + W q ≤ x ∨ Y q + H q ≤ fr := by
            intro q hq hql1
            obtain ⟨h3, h4, h5⟩ := h1 q hq hql1
            by_cases h8 : x + W p ≤ X q
            · exact Or.inl h8
            · by_cases h9 : X q + W q ≤ x
              · exact Or.inr (Or.inl h9)
              · refine Or.inr (Or.inr ?_)
                have hwq := hW q hq
                have e1 := h5 (max x (X q)) (Nat.le_max_right _ _) (by omega)
                have e2 := hfrom (max x (X q)) (Nat.le_max_left _ _) (by omega)
                omega
          have hbit : ∀ q, q ≠ p → (laid ||| 1 <<< p).testBit q = true → laid.testBit q = true := by
            intro q hqp hql
            rw [cu_tb] at hql
            cases hh : laid.testBit q <;> simp_all
          intro i hi j hj hil hjl hij
          by_cases hip : i = p
          · have hjp : j ≠ p := fun e => hij (hip.trans e.symm)
            simp only [hip, hjp, if_true, if_false]
            rcases hnew j hj (hbit j hjp hjl) with h | h | h
            · exact Or.inl h
            · exact Or.inr (Or.inl h)
            · exact Or.inr (Or.inr (Or.inr h))
          · by_cases hjp : j = p
            · simp only [hip, hjp, if_true, if_false]
              rcases hnew i hi (hbit i hip hil) with h | h | h
              · exact Or.inr (Or.inl h)
              · exact Or.inl h
              · exact Or.inr (Or.inr (Or.inl h))
            · simp only [hip, hjp, if_false]
              exact h2 i hi j hj (hbit i hip hil) (hbit j hjp hjl) hij
def cu_sum (f : Nat → Nat) : Nat → Nat
  | 0 => 0
  | n + 1 => cu_sum f n + f n
theorem cu_sum_le {f g : Nat → Nat} {n : Nat} (h : ∀ k < n, f k ≤ g k) : cu_sum f n ≤ cu_sum g n := by
  induction n with
  | zero => exact Nat.le_refl _
  | succ n ih => unfold cu_sum; have := ih (fun k hk => h k (by omega)); have := h n (by omega); omega
theorem cu_sum_eq {f g : Nat → Nat} {n : Nat} (h : ∀ k < n, f k = g k) : cu_sum f n = cu_sum g n := by
  induction n with
  | zero => rfl
  | succ n ih => unfold cu_sum; rw [ih (fun k hk => h k (by omega)), h n (by omega)]
theorem cu_sum_mono {f : Nat → Nat} {a b : Nat} (h : a ≤ b) : cu_sum f a ≤ cu_sum f b := by
  induction b with
  | zero => have : a = 0 := by omega
            subst this; exact Nat.le_refl _
  | succ b ih =>
    by_cases e : a = b + 1
    · subst e; exact Nat.le_refl _
    · have := ih (by omega)
      show _ ≤ cu_sum f b + f b
      omega
theorem cu_stack (hW : ∀ i < n, W i ≤ 8) : cu_F n W H (cu_sum H n) := by
  refine ⟨fun _ => 0, fun i => cu_sum H i, fun i hi => ⟨by have := hW i hi; show 0 + W i ≤ 8; omega, ?_⟩, fun i hi j hj hij => ?_⟩
  · exact cu_sum_mono (f := H) (a := i + 1) (b := n) hi
  · rcases Nat.lt_or_gt_of_ne hij with h | h
    · exact Or.inr (Or.inr (Or.inl (cu_sum_mono (f := H) (a := i + 1) (b := j) h)))
    · exact Or.inr (Or.inr (Or.inr (cu_sum_mono (f := H) (a := j + 1) (b := i) h)))
theorem cu_opt {far0 : Nat} (hW : ∀ i < n, 1 ≤ W i ∧ W i ≤ 8) (hH : ∀ i < n, 1 ≤ H i) (hs : cu_sum H n < far0) : cu_F n W H (cu_lay n W H n 0 (fun _ => 0) 0 far0) ∧ ∀ L, cu_F n W H L → cu_lay n W H n 0 (fun _ => 0) 0 far0 ≤ L := by
  have hB : ∀ L, cu_F n W H L → cu_lay n W H n 0 (fun _ => 0) 0 far0 ≤ L := by
    rintro L ⟨X, Y, hP⟩
    exact cu_B hP (fun i hi => (hW i hi).1) hH cu_ct_z (fun q _ _ c _ _ => Nat.zero_le _) (Nat.zero_le _)
  refine ⟨?_, hB⟩
  have h1 := hB _ (cu_stack (fun i hi => (hW i hi).2))
  rcases cu_A (H := H) hW (m := n) (laid := 0) (sky := fun _ => 0) (far := 0) (least := far0) (X := fun _ => 0) (Y := fun _ => 0) cu_ct_z (fun q _ h => by simp at h) (fun i _ j _ h => by simp at h) with h | h
  · omega
  · exact h
/-- in one column or over all: what pieces take is no more than there is -/
theorem cu_sum_swap {f : Nat → Nat → Nat} {a b : Nat} : cu_sum (fun i => cu_sum (f i) b) a = cu_sum (fun j => cu_sum (fun i => f i j) a) b := by
  induction a with
  | zero => induction b with
    | zero => rfl
    | succ b ih => unfold cu_sum; rw [← ih]; rfl
  | succ a ih =>
    have h : ∀ b, cu_sum (fun j => cu_sum (fun i => f i j) (a + 1)) b = cu_sum (fun j => cu_sum (fun i => f i j) a) b + cu_sum (f a) b := by
      intro b
      induction b with
      | zero => rfl
      | succ b ih2 =>
        show cu_sum (fun j => cu_sum (fun i => f i j) (a + 1)) b + (cu_sum (fun i => f i b) a + f a b) = cu_sum (fun j => cu_sum (fun i => f i j) a) b + cu_sum (fun i => f i b) a + (cu_sum (f a) b + f a b)
        rw [ih2]; omega
    rw [h, ← ih]; rfl
theorem cu_sum_rng {x w : Nat} : ∀ {N : Nat}, x + w ≤ N → cu_sum (fun c => if x ≤ c ∧ c < x + w then 1 else 0) N = w := by
  have h0 : ∀ N, N ≤ x → cu_sum (fun c => if x ≤ c ∧ c < x + w then 1 else 0) N = 0 := by
    intro N
    induction N with
    | zero => intro _; rfl
    | succ N ih => intro h; unfold cu_sum; rw [ih (by omega), if_neg (by omega)]
  have h1 : ∀ k, k ≤ w → cu_sum (fun c => if x ≤ c ∧ c < x + w then 1 else 0) (x + k) = k := by
    intro k
    induction k with
    | zero => intro _; exact h0 x (Nat.le_refl x)
    | succ k ih => intro h; show cu_sum _ (x + k) + (if x ≤ x + k ∧ x + k < x + w then 1 else 0) = _; rw [ih (by omega), if_pos (by omega)]
  intro N hN
  obtain ⟨e, rfl⟩ : ∃ e, N = x + w + e := ⟨N - (x + w), by omega⟩
  clear hN
  induction e with
  | zero => exact h1 w (Nat.le_refl w)
  | succ e ih => show cu_sum _ (x + w + e) + (if x ≤ x + w + e ∧ x + w + e < x + w then 1 else 0) = _; rw [ih, if_neg (by omega), Nat.add_zero]
theorem cu_sum_mul {f : Nat → Nat} {a : Nat} : ∀ {n : Nat}, cu_sum (fun k => f k * a) n = cu_sum f n * a := by
  intro n
  induction n with
  | zero => simp [cu_sum]
  | succ n ih => unfold cu_sum; rw [ih, Nat.add_mul]
theorem cu_one {f : Nat → Nat} (h1 : ∀ i < n, f i ≤ 1) (h2 : ∀ i < n, ∀ j < n, i ≠ j → f i = 0 ∨ f j = 0) : cu_sum f n ≤ 1 := by
  induction n with
  | zero => exact Nat.zero_le _
  | succ n ih =>
    unfold cu_sum
    have h3 := ih (fun i hi => h1 i (by omega)) (fun i hi j hj => h2 i (by omega) j (by omega))
    by_cases h4 : f n = 0
    · omega
    · have h5 : cu_sum f n ≤ cu_sum (fun _ => 0) n := cu_sum_le fun k hk => by
        rcases h2 k (by omega) n (by omega) (by omega) with h | h
        · exact Nat.le_of_eq h
        · exact absurd h h4
      have h6 : ∀ m, cu_sum (fun _ => 0) m = 0 := by
        intro m; induction m with
        | zero => rfl
        | succ m ih => unfold cu_sum; rw [ih]
      rw [h6] at h5
      have := h1 n (by omega)
      omega
/-- in a column -/
theorem cu_col {L : Nat} {X Y : Nat → Nat} (hP : cu_P n W H L X Y) (c : Nat) (g : Nat → Nat) (hg : ∀ i < n, g i = 0 ∨ (g i = 1 ∧ X i ≤ c ∧ c < X i + W i)) : cu_sum (fun i => g i * H i) n ≤ L := by
  have e1 : cu_sum (fun i => g i * H i) n = cu_sum (fun i => cu_sum (fun y => (if Y i ≤ y ∧ y < Y i + H i then 1 else 0) * g i) L) n := cu_sum_eq fun i hi => by
    rw [cu_sum_mul, cu_sum_rng (hP.1 i hi).2, Nat.mul_comm]
  rw [e1, cu_sum_swap]
  have h6 : ∀ m, cu_sum (fun _ => 1) m = m := by
    intro m; induction m with
    | zero => rfl
    | succ m ih => unfold cu_sum; rw [ih]
  refine Nat.le_trans (cu_sum_le (g := fun _ => 1) fun y _ => ?_) (Nat.le_of_eq (h6 L))
  refine cu_one (fun i hi => ?_) (fun i hi j hj hij => ?_)
  · rcases hg i hi with h | h
    · rw [h]; simp
    · rw [h.1]; split <;> simp
  · rcases hg i hi with h | h
    · rw [h]; simp
    · rcases hg j hj with h' | h'
      · rw [h']; simp
      · have := hP.2 i hi j hj hij
        by_cases a1 : Y i ≤ y ∧ y < Y i + H i
        · by_cases a2 : Y j ≤ y ∧ y < Y j + H j
          · omega
          · right; rw [if_neg a2]; simp
        · left; rw [if_neg a1]; simp
theorem cu_area {L : Nat} (hF : cu_F n W H L) : cu_sum (fun i => W i * H i) n ≤ 8 * L := by
  obtain ⟨X, Y, hP⟩ := hF
  have e1 : cu_sum (fun i => W i * H i) n = cu_sum (fun i => cu_sum (fun c => (if X i ≤ c ∧ c < X i + W i then 1 else 0) * H i) 8) n := cu_sum_eq fun i hi => by
    rw [cu_sum_mul, cu_sum_rng (hP.1 i hi).1]
  rw [e1, cu_sum_swap]
  have h6 : ∀ m, cu_sum (fun _ => L) m = m * L := by
    intro m; induction m with
    | zero => simp [cu_sum]
    | succ m ih => unfold cu_sum; rw [ih, Nat.succ_mul]
  refine Nat.le_trans (cu_sum_le (g := fun _ => L) fun c _ => ?_) (Nat.le_of_eq (h6 8))
  refine cu_col hP c (fun i => if X i ≤ c ∧ c < X i + W i then 1 else 0) fun i hi => ?_
  by_cases h : X i ≤ c ∧ c < X i + W i
  · right; simp [h]
  · left; simp [h]
theorem cu_alone {L : Nat} (hF : cu_F n W H L) : cu_sum (fun i => if 4 < W i then H i else 0) n ≤ L := by
  obtain ⟨X, Y, hP⟩ := hF
  have := cu_col hP 3 (fun i => if 4 < W i then 1 else 0) fun i hi => by
    by_cases h : 4 < W i
    · right; have := hP.1 i hi; simp [h]; omega
    · left; simp [h]
  refine Nat.le_trans (Nat.le_of_eq (cu_sum_eq fun i _ => ?_)) this
  split <;> simp
theorem cu_long {L i : Nat} (hF : cu_F n W H L) (hi : i < n) : H i ≤ L := by
  obtain ⟨X, Y, hP⟩ := hF
  have := hP.1 i hi
  omega
theorem cu_up {L M : Nat} (hF : cu_F n W H L) (h : L ≤ M) : cu_F n W H M := by
  obtain ⟨X, Y, hP⟩ := hF
  exact ⟨X, Y, fun i hi => ⟨(hP.1 i hi).1, Nat.le_trans (hP.1 i hi).2 h⟩, hP.2⟩
end
