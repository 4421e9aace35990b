section
section
/-- thread p, register q: what the method bad and the law's first, second, third ask -/
def th_good (p q : Int32) : Prop := ¬ p < 0 ∧ ¬ 2 < p ∧ ¬ q < 0 ∧ ¬ 3 < q
/-- the place of thread p's register q -/
def th_ix (p q : Int32) : Nat := ((p * 4) + q).toNatClampNeg
theorem th_nat {p q : Int32} (h : th_good p q) : ∃ a b : Nat, a < 3 ∧ b < 4 ∧ p = nI a ∧ q = nI b := by
  obtain ⟨h1, h2, h3, h4⟩ := h
  obtain ⟨a, ha, ea⟩ := nI_of2 (M := 2) (n := 2) (by decide) h1 (Int32.not_lt.mp h2)
  obtain ⟨b, hb, eb⟩ := nI_of2 (M := 3) (n := 3) (by decide) h3 (Int32.not_lt.mp h4)
  exact ⟨a, b, by omega, by omega, ea, eb⟩
theorem th_lin (a b : Nat) : nI a * 4 + nI b = nI (a * 4 + b) := by
  have e : (4 : Int32) = nI 4 := rfl
  rw [e, pk_mul, nI_add]
theorem th_ixn {a b : Nat} (ha : a < 3) (hb : b < 4) : th_ix (nI a) (nI b) = a * 4 + b := by
  unfold th_ix
  rw [th_lin, nI_clamp (by omega)]
theorem th_in {p q : Int32} (h : th_good p q) : vp_in ((p * 4) + q) 12 := by
  obtain ⟨a, b, ha, hb, rfl, rfl⟩ := th_nat h
  rw [th_lin]
  exact pk_in (a * 4 + b) 12 (by omega)
theorem th_lt {p q : Int32} (h : th_good p q) : th_ix p q < 12 := by
  obtain ⟨a, b, ha, hb, rfl, rfl⟩ := th_nat h
  rw [th_ixn ha hb]
  omega
theorem th_inj {p q p' q' : Int32} (h : th_good p q) (h' : th_good p' q') (e : th_ix p q = th_ix p' q') : p = p' ∧ q = q' := by
  obtain ⟨a, b, ha, hb, rfl, rfl⟩ := th_nat h
  obtain ⟨a', b', ha', hb', rfl, rfl⟩ := th_nat h'
  rw [th_ixn ha hb, th_ixn ha' hb'] at e
  have e1 : a = a' := by omega
  have e2 : b = b' := by omega
  exact ⟨by rw [e1], by rw [e2]⟩
theorem th_br {p q : Int32} {A B : Prop} (h1 : th_good p q → B) (h0 : ¬ th_good p q → A) : (p < 0 → A) ∧ (¬ p < 0 → ((2 < p → A) ∧ (¬ 2 < p → ((q < 0 → A) ∧ (¬ q < 0 → ((3 < q → A) ∧ (¬ 3 < q → B))))))) :=
  br_c (fun g => h0 (fun z => z.1 g)) (fun g1 => br_c (fun g => h0 (fun z => z.2.1 g)) (fun g2 => br_c (fun g => h0 (fun z => z.2.2.1 g)) (fun g3 => br_c (fun g => h0 (fun z => z.2.2.2 g)) (fun g4 => h1 ⟨g1, g2, g3, g4⟩))))
/-- the colour of cell 0 after a register with content x was reached; white is 1 -/
def th_rc (c x : Int32) : Int32 := if c = 1 ∧ x = 0 then 3 else c
/-- .. after the first n registers -/
def th_rcs (r : Nat → Int32) (c : Int32) : Nat → Int32
  | 0 => c
  | n + 1 => th_rc (th_rcs r c n) (r n)
/-- the colours: k at cell 0, the other three cells free -/
def th_P (k : Int32) (f : Nat → Int32) : Prop := f 0 = k ∧ f 1 = 0 ∧ f 2 = 0 ∧ f 3 = 0
theorem th_Pu {k : Int32} {f : Nat → Int32} (h : th_P k f) (v : Int32) : th_P v (upd f 0 v) :=
  ⟨pk_us, (pk_un (by decide)).trans h.2.1, (pk_un (by decide)).trans h.2.2.1, (pk_un (by decide)).trans h.2.2.2⟩
theorem th_rcs0 (r : Nat → Int32) (n : Nat) : th_rcs r 0 n = 0 := by
  induction n with
  | zero => rfl
  | succ n ih =>
    show th_rc (th_rcs r 0 n) (r n) = 0
    rw [ih]
    exact if_neg (fun z => absurd z.1 (by decide))
theorem th_rcs1 {r : Nat → Int32} {n : Nat} (h : ∀ j, j < n → ¬ r j = 0) : th_rcs r 1 n = 1 := by
  induction n with
  | zero => rfl
  | succ n ih =>
    show th_rc (th_rcs r 1 n) (r n) = 1
    rw [ih (fun j hj => h j (by omega))]
    exact if_neg (fun z => h n (by omega) z.2)
theorem th_rcsd (r : Nat → Int32) (n : Nat) : th_rcs r 1 n = 1 ∨ th_rcs r 1 n = 3 := by
  induction n with
  | zero => exact Or.inl rfl
  | succ n ih =>
    show th_rc (th_rcs r 1 n) (r n) = 1 ∨ th_rc (th_rcs r 1 n) (r n) = 3
    unfold th_rc
    by_cases e : th_rcs r 1 n = 1 ∧ r n = 0
    · rw [if_pos e]
      exact Or.inr rfl
    · rw [if_neg e]
      exact ih
theorem th_rcs3 {r : Nat → Int32} {n j : Nat} (hj : j < n) (hr : r j = 0) : th_rcs r 1 n = 3 := by
  induction n with
  | zero => exact absurd hj (by omega)
  | succ n ih =>
    show th_rc (th_rcs r 1 n) (r n) = 3
    by_cases e : j = n
    · rcases th_rcsd r n with h | h
      · exact if_pos ⟨h, by rw [← e]; exact hr⟩
      · rw [h]
        exact if_neg (fun z => absurd z.1 (by decide))
    · rw [ih (by omega)]
      exact if_neg (fun z => absurd z.1 (by decide))
/-- every register is null or holds cell 0 -/
def th_ok (r : Nat → Int32) : Prop := ∀ j, j < 12 → r j = -1 ∨ r j = 0
/-- every register is null -/
def th_neg (r : Nat → Int32) : Prop := ∀ j, j < 12 → r j = -1
theorem th_ok_n {r : Nat → Int32} (h : th_neg r) : th_ok r := fun j hj => Or.inl (h j hj)
theorem th_ok_u {r : Nat → Int32} (h : th_ok r) {k : Nat} {v : Int32} (hv : v = -1 ∨ v = 0) : th_ok (upd r k v) := by
  intro j hj
  by_cases e : j = k
  · rw [e, pk_us]
    exact hv
  · rw [pk_un e]
    exact h j hj
theorem th_neg_u {r : Nat → Int32} (h : th_neg r) {k : Nat} {v : Int32} (hv : v = -1) : th_neg (upd r k v) := by
  intro j hj
  by_cases e : j = k
  · rw [e, pk_us]
    exact hv
  · rw [pk_un e]
    exact h j hj
theorem th_neg_ne {r : Nat → Int32} (h : th_neg r) : ∀ j, j < 12 → ¬ r j = 0 := by
  intro j hj z
  rw [h j hj] at z
  exact absurd z (by decide)
/-- null everywhere but at i, and null put at i -/
theorem th_neg_d {r : Nat → Int32} {i : Nat} (h : ∀ j, j < 12 → j ≠ i → r j = -1) : th_neg (upd r i (-1)) := by
  intro j hj
  by_cases e : j = i
  · rw [e, pk_us]
  · rw [pk_un e]
    exact h j hj e
end
end
section
section
variable {post : St2 → Prop} {c an an' ph ph' bl sw ct k k' x : Int32} {a1 a2 a3 a4 a5 a6 a7 a8 : Nat → Int32}
theorem th_reach (hP : th_P k a1) (hx : x = -1 ∨ x = 0) (H : ∀ b, th_P (th_rc k x) b → post (c, an, ph, 2, sw, ct, b, a2, a3, a4, a5, a6, a7, a8)) : wpX_reach post (c, an, ph, 2, sw, ct, a1, a2, a3, a4, a5, a6, a7, a8) x := by
  rcases hx with rfl | rfl
  · have e : th_rc k (-1) = k := if_neg (fun z => absurd z.2 (by decide))
    rw [e] at H
    exact br_t (by decide) (H a1 hP)
  · by_cases hk : k = 1
    · have e : th_rc k 0 = 3 := if_pos ⟨hk, rfl⟩
      rw [e] at H
      exact br_f (by decide) ⟨pk_in 0 16 (by omega), br_t (hP.1.trans hk) ⟨pk_in 0 16 (by omega), nm_e (H _ (th_Pu hP 3))⟩⟩
    · have e : th_rc k 0 = k := if_neg (fun z => hk z.1)
      rw [e] at H
      exact br_f (by decide) ⟨pk_in 0 16 (by omega), br_f (fun z => hk (hP.1.symm.trans z)) (H a1 hP)⟩
theorem th_reachm (hx : x = -1) (H : post (c, an, ph, bl, sw, ct, a1, a2, a3, a4, a5, a6, a7, a8)) : wpX_reach post (c, an, ph, bl, sw, ct, a1, a2, a3, a4, a5, a6, a7, a8) x := by
  subst hx
  exact br_t (by decide) H
theorem th_ansN (hp : ph < 1 ∨ 3 < ph) (H : post (c, an, ph, bl, sw, ct, a1, a2, a3, a4, a5, a6, a7, a8)) : wpX_answer post (c, an, ph, bl, sw, ct, a1, a2, a3, a4, a5, a6, a7, a8) x := by
  rcases hp with h | h
  · exact br_t h H
  · exact br_c (fun _ => H) (fun _ => br_t h H)
theorem th_ansA (t : Nat) (ht : t < 3) (h1 : ¬ ph < 1) (h3 : ¬ 3 < ph) (hn : ¬ ph = 3) (hb : ¬ ((an >>> (nI t &&& 31)) &&& 1) = 1) (ho : an ||| ((1 : Int32) <<< (nI t &&& 31)) = an')
    (H : ∀ b, post (c, an', ph, bl, sw, ct, a1, a2, a3, a4, a5, a6, a7, b)) : wpX_answer post (c, an, ph, bl, sw, ct, a1, a2, a3, a4, a5, a6, a7, a8) (nI t) :=
  br_f h1 (br_f h3 (br_f hb (nm_r ho ⟨pk_in t 3 ht, nm_e (br_f hn (H _))⟩)))
theorem th_a61 {t : Nat} (ht : t < 3) (hP : th_P (th_rcs a6 k (t * 4)) a1) (hr : th_ok a6)
    (H : ∀ b, th_P (th_rcs a6 k (t * 4 + 4)) b → post (c, an, ph, 2, sw, ct, b, a2, a3, a4, a5, a6, a7, a8)) : ∃ n, wX_answer_61 post (nI t) n 0 c an ph 2 sw ct a1 a2 a3 a4 a5 a6 a7 a8 :=
  pk_loop (fun n i s => wX_answer_61 post (nI t) n (nI i) c an ph 2 sw ct s a2 a3 a4 a5 a6 a7 a8) (fun i s => th_P (th_rcs a6 k (t * 4 + i)) s) 4 0 a1 (by omega) hP
    (fun n s h => pk_le 4 4 (fun _ => H s h) (fun z => absurd z (by omega)))
    (fun n i s hi h hw => pk_le 4 i (fun z => absurd z (by omega)) (fun _ => by
      rw [th_lin, nI_clamp (by omega)]
      exact ⟨pk_in (t * 4 + i) 12 (by omega), th_reach h (hr _ (by omega)) (fun b hb => nm_r (nI_1 i) (hw b hb))⟩))
theorem th_ansB (t : Nat) (ht : t < 3) (hP : th_P (th_rcs a6 k (t * 4)) a1) (hr : th_ok a6) (hb : ¬ ((an >>> (nI t &&& 31)) &&& 1) = 1) (ho : an ||| ((1 : Int32) <<< (nI t &&& 31)) = an')
    (H : ∀ b b', th_P (th_rcs a6 k (t * 4 + 4)) b → post (c, an', 3, 2, sw, ct, b, a2, a3, a4, a5, a6, a7, b')) : wpX_answer post (c, an, 3, 2, sw, ct, a1, a2, a3, a4, a5, a6, a7, a8) (nI t) :=
  br_f (by decide) (br_f (by decide) (br_f hb (nm_r ho ⟨pk_in t 3 ht, nm_e (br_t rfl (th_a61 ht hP hr (fun b h => H b _ h)))⟩)))
theorem th_drive12 (h1 : ¬ ph < 1) (h3 : ¬ 3 < ph) (hn : ¬ ph = 3) (hz : ¬ ph = 0) (hq : ph + 1 = ph') (h4 : ¬ ph' = 4)
    (H : ∀ b, post (c, 0, ph', bl, sw, ct, a1, a2, a3, a4, a5, a6, a7, b)) : wpX_drive post (c, 0, ph, bl, sw, ct, a1, a2, a3, a4, a5, a6, a7, a8) := by
  unfold wpX_drive
  exact th_ansA (an' := 1) 0 (by omega) h1 h3 hn (by decide) (by decide) (fun _ => th_ansA (an' := 3) 1 (by omega) h1 h3 hn (by decide) (by decide) (fun _ => th_ansA (an' := 7) 2 (by omega) h1 h3 hn (by decide) (by decide) (fun b => br_f hz (br_f h3 (br_t rfl (nm_r hq (br_f h4 (H b))))))))
theorem th_drive3 (hP : th_P k a1) (hr : th_ok a6) (g0 : a7 0 = -1) (g1 : a7 1 = -1)
    (H : ∀ b b', th_P (th_rcs a6 k 12) b → post (c, 0, 4, 2, sw, ct, b, a2, a3, a4, a5, a6, a7, b')) : wpX_drive post (c, 0, 3, 2, sw, ct, a1, a2, a3, a4, a5, a6, a7, a8) := by
  unfold wpX_drive
  exact th_ansB (an' := 1) (k := k) 0 (by omega) hP hr (by decide) (by decide) (fun _ _ hb => th_ansB (an' := 3) (k := k) 1 (by omega) hb hr (by decide) (by decide) (fun _ _ hb => th_ansB (an' := 7) (k := k) 2 (by omega) hb hr (by decide) (by decide) (fun b b' hb => br_f (by decide) (br_f (by decide) (br_t rfl (nm_r (e' := 4) (by decide) (br_t rfl (th_reachm g0 (th_reachm g1 (H b b' hb))))))))))
theorem th_trace3 (hP : th_P 3 a1) (l0 : a2 0 = -1) (l1 : a3 0 = -1) (H : ∀ b, th_P 2 b → post (4, an, 4, 2, sw, ct, b, a2, a3, a4, a5, a6, a7, a8)) : wpX_traceStep post (4, an, 4, 2, sw, ct, a1, a2, a3, a4, a5, a6, a7, a8) :=
  Exists.intro 5 (br_f (by decide) ⟨pk_in 0 16 (by omega), br_t hP.1 (nm_r (e' := 1) (by decide)
    (br_f (by decide) ⟨pk_in 1 16 (by omega), br_f (fun z => absurd (hP.2.1.symm.trans z) (by decide)) (nm_r (e' := 2) (by decide)
    (br_f (by decide) ⟨pk_in 2 16 (by omega), br_f (fun z => absurd (hP.2.2.1.symm.trans z) (by decide)) (nm_r (e' := 3) (by decide)
    (br_f (by decide) ⟨pk_in 3 16 (by omega), br_f (fun z => absurd (hP.2.2.2.symm.trans z) (by decide)) (nm_r (e' := 4) (by decide)
    (br_t (by decide) (br_t (by decide) ⟨pk_in 0 16 (by omega), th_reachm l0 (And.intro (pk_in 0 16 (by omega)) (th_reachm l1 (And.intro (pk_in 0 16 (by omega)) (nm_e (H _ (th_Pu hP 2))))))⟩)))⟩))⟩))⟩))⟩)
theorem th_trace0 (hP : th_P k a1) (hk : ¬ k = 3) (H : post (4, an, 5, 2, 0, ct, a1, a2, a3, a4, a5, a6, a7, a8)) : wpX_traceStep post (4, an, 4, 2, sw, ct, a1, a2, a3, a4, a5, a6, a7, a8) :=
  Exists.intro 5 (br_f (by decide) ⟨pk_in 0 16 (by omega), br_f (fun z => hk (hP.1.symm.trans z)) (nm_r (e' := 1) (by decide)
    (br_f (by decide) ⟨pk_in 1 16 (by omega), br_f (fun z => absurd (hP.2.1.symm.trans z) (by decide)) (nm_r (e' := 2) (by decide)
    (br_f (by decide) ⟨pk_in 2 16 (by omega), br_f (fun z => absurd (hP.2.2.1.symm.trans z) (by decide)) (nm_r (e' := 3) (by decide)
    (br_f (by decide) ⟨pk_in 3 16 (by omega), br_f (fun z => absurd (hP.2.2.2.symm.trans z) (by decide)) (nm_r (e' := 4) (by decide)
    (br_t (by decide) (br_f (by decide) H)))⟩))⟩))⟩))⟩)
theorem th_drive4a (hP : th_P 3 a1) (l0 : a2 0 = -1) (l1 : a3 0 = -1) (H : ∀ b, th_P 2 b → post (4, an, 4, 2, sw, ct, b, a2, a3, a4, a5, a6, a7, a8)) : wpX_drive post (4, an, 4, 2, sw, ct, a1, a2, a3, a4, a5, a6, a7, a8) := by
  unfold wpX_drive
  exact th_ansN (Or.inr (by decide)) (th_ansN (Or.inr (by decide)) (th_ansN (Or.inr (by decide)) (br_f (by decide) (br_t (by decide) (br_t rfl (th_trace3 hP l0 l1 H))))))
theorem th_drive4b (hP : th_P k a1) (hk : ¬ k = 3) (H : post (4, an, 5, 2, 0, ct, a1, a2, a3, a4, a5, a6, a7, a8)) : wpX_drive post (4, an, 4, 2, sw, ct, a1, a2, a3, a4, a5, a6, a7, a8) := by
  unfold wpX_drive
  exact th_ansN (Or.inr (by decide)) (th_ansN (Or.inr (by decide)) (th_ansN (Or.inr (by decide)) (br_f (by decide) (br_t (by decide) (br_t rfl (th_trace0 hP hk H))))))
theorem th_drive5a (hP : th_P k a1) (hk : k = 1 ∧ k' = 0 ∨ ¬ k = 1 ∧ k' = k) (H : ∀ b, th_P k' b → post (4, an, 5, 2, 1, ct, b, a2, a3, a4, a5, a6, a7, a8)) : wpX_drive post (4, an, 5, 2, 0, ct, a1, a2, a3, a4, a5, a6, a7, a8) := by
  unfold wpX_drive
  refine th_ansN (Or.inr (by decide)) (th_ansN (Or.inr (by decide)) (th_ansN (Or.inr (by decide)) (br_f (by decide) (br_t (by decide) (br_f (by decide) (And.intro (pk_in 0 16 (by omega)) ?_))))))
  rcases hk with ⟨e, e'⟩ | ⟨e, e'⟩
  · refine br_t (hP.1.trans e) ⟨pk_in 0 16 (by omega), nm_e (nm_r (e' := 1) (by decide) (br_f (by decide) (H _ ?_)))⟩
    rw [e']
    exact th_Pu hP 0
  · refine br_f (fun z => e (hP.1.symm.trans z)) (nm_r (e' := 1) (by decide) (br_f (by decide) (H _ ?_)))
    rw [e']
    exact hP
theorem th_drive5b (s : Nat) (hs : s < 3) (h0 : a1 s = 0) (H : post (4, an, 5, 2, nI (s + 1), ct, a1, a2, a3, a4, a5, a6, a7, a8)) : wpX_drive post (4, an, 5, 2, nI s, ct, a1, a2, a3, a4, a5, a6, a7, a8) := by
  unfold wpX_drive
  refine th_ansN (Or.inr (by decide)) (th_ansN (Or.inr (by decide)) (th_ansN (Or.inr (by decide)) (br_f (by decide) (br_t (by decide) (br_f (by decide) (And.intro (pk_in s 16 (by omega)) ?_))))))
  rw [nI_clamp (by omega), h0]
  exact br_f (by decide) (nm_r (nI_1 s) (pk_eq (s + 1) 4 (fun z => absurd z (by omega)) (fun _ => H)))
theorem th_drive5c (h0 : a1 3 = 0) (H : post (4, an, 0, 2, 0, ct, a1, a2, a3, a4, a5, a6, a7, a8)) : wpX_drive post (4, an, 5, 2, 3, ct, a1, a2, a3, a4, a5, a6, a7, a8) := by
  unfold wpX_drive
  exact th_ansN (Or.inr (by decide)) (th_ansN (Or.inr (by decide)) (th_ansN (Or.inr (by decide)) (br_f (by decide) (br_t (by decide) (br_f (by decide) (And.intro (pk_in 3 16 (by omega)) (br_f (fun z => absurd (h0.symm.trans z) (by decide)) (nm_r (e' := 4) (by decide) (br_t rfl H)))))))))
end
end
section
section
variable {post : St2 → Prop} {an sw ct k k' : Int32} {a1 a2 a3 a4 a5 a6 a7 a8 : Nat → Int32}
theorem th_c5 {n i : Nat} (hi : i < 60) (hP : th_P k a1) (hk : k = 1 ∧ k' = 0 ∨ ¬ k = 1 ∧ k' = k) (H : ∀ b, th_P k' b → post (4, 0, 0, 2, 0, ct, b, a2, a3, a4, a5, a6, a7, a8)) : wX_collectAll_31 post (n + 5) (nI i) 4 0 5 2 0 ct a1 a2 a3 a4 a5 a6 a7 a8 :=
  pk_le 80 i (fun z => absurd z (by omega)) (fun _ => br_f (by decide) (th_drive5a hP hk (fun b hb => nm_r (nI_1 i)
    (pk_le 80 (i + 1) (fun z => absurd z (by omega)) (fun _ => br_f (by decide) (th_drive5b 1 (by omega) hb.2.1 (nm_r (nI_1 (i + 1))
    (pk_le 80 (i + 1 + 1) (fun z => absurd z (by omega)) (fun _ => br_f (by decide) (th_drive5b 2 (by omega) hb.2.2.1 (nm_r (nI_1 (i + 1 + 1))
    (pk_le 80 (i + 1 + 1 + 1) (fun z => absurd z (by omega)) (fun _ => br_f (by decide) (th_drive5c hb.2.2.2 (nm_r (nI_1 (i + 1 + 1 + 1))
    (pk_le 80 (i + 1 + 1 + 1 + 1) (fun z => absurd z (by omega)) (fun _ => br_t rfl (H b hb))))))))))))))))))
theorem th_c4 {n i : Nat} (hi : i < 50) (hP : th_P k a1) (h3 : ¬ k = 3) (hk : k = 1 ∧ k' = 0 ∨ ¬ k = 1 ∧ k' = k) (H : ∀ b, th_P k' b → post (4, 0, 0, 2, 0, ct, b, a2, a3, a4, a5, a6, a7, a8)) : wX_collectAll_31 post (n + 6) (nI i) 4 0 4 2 sw ct a1 a2 a3 a4 a5 a6 a7 a8 :=
  pk_le 80 i (fun z => absurd z (by omega)) (fun _ => br_f (by decide) (th_drive4b hP h3 (nm_r (nI_1 i) (th_c5 (by omega) hP hk H))))
theorem th_c43 {n i : Nat} (hi : i < 40) (hP : th_P 3 a1) (l0 : a2 0 = -1) (l1 : a3 0 = -1) (H : ∀ b, th_P 2 b → post (4, 0, 0, 2, 0, ct, b, a2, a3, a4, a5, a6, a7, a8)) : wX_collectAll_31 post (n + 7) (nI i) 4 0 4 2 sw ct a1 a2 a3 a4 a5 a6 a7 a8 :=
  pk_le 80 i (fun z => absurd z (by omega)) (fun _ => br_f (by decide) (th_drive4a hP l0 l1 (fun b hb => nm_r (nI_1 i) (th_c4 (by omega) hb (by decide) (Or.inr ⟨by decide, rfl⟩) H))))
/-- what is left of cell 0: 2 (black) where a register held it, else free -/
theorem th_c1 (hP : th_P k a1) (hr : th_ok a6) (g0 : a7 0 = -1) (g1 : a7 1 = -1)
    (hk : (th_rcs a6 k 12 = 3 ∧ a2 0 = -1 ∧ a3 0 = -1) ∧ k' = 2 ∨ (th_rcs a6 k 12 = 0 ∨ th_rcs a6 k 12 = 1) ∧ k' = 0)
    (H : ∀ b b', th_P k' b → post (4, 0, 0, 2, 0, ct, b, a2, a3, a4, a5, a6, a7, b')) : wX_collectAll_31 post 10 (nI 0) 4 0 1 2 sw ct a1 a2 a3 a4 a5 a6 a7 a8 := by
  refine br_f (by decide) (br_f (by decide) (th_drive12 (ph' := 2) (by decide) (by decide) (by decide) (by decide) (by decide) (by decide) (fun _ => nm_r (nI_1 0) ?_)))
  refine br_f (by decide) (br_f (by decide) (th_drive12 (ph' := 3) (by decide) (by decide) (by decide) (by decide) (by decide) (by decide) (fun _ => nm_r (nI_1 1) ?_)))
  refine br_f (by decide) (br_f (by decide) (th_drive3 hP hr g0 g1 (fun b b' hb => nm_r (nI_1 2) ?_)))
  rcases hk with ⟨⟨e, l0, l1⟩, e'⟩ | ⟨e, e'⟩
  · rw [e] at hb
    subst e'
    exact th_c43 (n := 0) (i := 3) (by omega) hb l0 l1 (fun d hd => H d b' hd)
  · subst e'
    rcases e with e | e
    · rw [e] at hb
      exact th_c4 (n := 1) (i := 3) (by omega) hb (by decide) (Or.inr ⟨by decide, rfl⟩) (fun d hd => H d b' hd)
    · rw [e] at hb
      exact th_c4 (n := 1) (i := 3) (by omega) hb (by decide) (Or.inl ⟨rfl, rfl⟩) (fun d hd => H d b' hd)
theorem th_collect (hP : th_P k a1) (hr : th_ok a6) (g0 : a7 0 = -1) (g1 : a7 1 = -1)
    (hk : (th_rcs a6 k 12 = 3 ∧ a2 0 = -1 ∧ a3 0 = -1) ∧ k' = 2 ∨ (th_rcs a6 k 12 = 0 ∨ th_rcs a6 k 12 = 1) ∧ k' = 0)
    (H : ∀ b b', th_P k' b → post (4, 0, 0, 2, 0, ct, b, a2, a3, a4, a5, a6, a7, b')) : wpX_collectAll post (4, an, 0, 1, sw, ct, a1, a2, a3, a4, a5, a6, a7, a8) :=
  Exists.intro 1 (br_f (by decide) (br_t rfl (show wX_collectAll_25 post 4 an 0 1 sw ct a1 a2 a3 a4 a5 a6 a7 a8 from br_t rfl (nm_r (e' := 2) (by decide) (Exists.intro 10 (th_c1 hP hr g0 g1 hk H))))))
end
section
variable {post : Int32 → St2 → Prop} {c an ph bl sw ct k k' v : Int32} {a1 a2 a3 a4 a5 a6 a7 a8 : Nat → Int32}
theorem th_count (hP : th_P k a1) (hk : k = 0 ∧ v = 0 ∨ ¬ k = 0 ∧ v = 1) (H : post v (4, an, ph, bl, sw, ct, a1, a2, a3, a4, a5, a6, a7, a8)) : wX_live_8 post 4 an ph bl sw ct a1 a2 a3 a4 a5 a6 a7 a8 5 0 0 := by
  have T : ∀ w : Int32, post w (4, an, ph, bl, sw, ct, a1, a2, a3, a4, a5, a6, a7, a8) → wX_live_8 post 4 an ph bl sw ct a1 a2 a3 a4 a5 a6 a7 a8 4 w 1 := fun w Hw =>
    br_f (by decide) ⟨pk_in 1 16 (by omega), br_t hP.2.1 (nm_r (e' := 2) (by decide)
    (br_f (by decide) ⟨pk_in 2 16 (by omega), br_t hP.2.2.1 (nm_r (e' := 3) (by decide)
    (br_f (by decide) ⟨pk_in 3 16 (by omega), br_t hP.2.2.2 (nm_r (e' := 4) (by decide)
    (br_t (by decide) Hw))⟩))⟩))⟩
  rcases hk with ⟨e, e'⟩ | ⟨e, e'⟩
  · subst e'
    exact br_f (by decide) ⟨pk_in 0 16 (by omega), br_t (hP.1.trans e) (nm_r (e' := 1) (by decide) (T 0 H))⟩
  · subst e'
    exact br_f (by decide) ⟨pk_in 0 16 (by omega), br_f (fun z => e (hP.1.symm.trans z)) (nm_r (e' := 1) (by decide) (nm_r (e' := 1) (by decide) (T 1 H)))⟩
theorem th_live (hP : th_P k a1) (hr : th_ok a6) (g0 : a7 0 = -1) (g1 : a7 1 = -1)
    (hk : (th_rcs a6 k 12 = 3 ∧ a2 0 = -1 ∧ a3 0 = -1) ∧ v = 1 ∨ (th_rcs a6 k 12 = 0 ∨ th_rcs a6 k 12 = 1) ∧ v = 0)
    (H : ∀ b b', post v (4, 0, 0, 2, 0, ct, b, a2, a3, a4, a5, a6, a7, b')) : wpX_live post (4, an, 0, 1, sw, ct, a1, a2, a3, a4, a5, a6, a7, a8) := by
  rcases hk with ⟨e, e'⟩ | ⟨e, e'⟩
  · exact th_collect (k' := 2) hP hr g0 g1 (Or.inl ⟨e, rfl⟩) (fun b b' hb => Exists.intro 5 (th_count hb (Or.inr ⟨by decide, e'⟩) (H b b')))
  · exact th_collect (k' := 0) hP hr g0 g1 (Or.inr ⟨e, rfl⟩) (fun b b' hb => Exists.intro 5 (th_count hb (Or.inl ⟨rfl, e'⟩) (H b b')))
end
end
section
section
variable {c an ph bl sw ct n p q s t : Int32} {a1 a2 a3 a4 a5 a6 a7 a8 : Nat → Int32}
theorem th_bad {post : Int32 → Prop} {u : St2} {p q : Int32} (h0 : th_good p q → post 0) (h1 : ¬ th_good p q → post 1) : wpX_bad post u p q := by
  obtain ⟨c, an, ph, bl, sw, ct, a1, a2, a3, a4, a5, a6, a7, a8⟩ := u
  exact br_c (fun g => h1 (fun z => z.1 g)) (fun g1 => br_c (fun g => h1 (fun z => z.2.1 g)) (fun g2 => br_c (fun g => h1 (fun z => z.2.2.1 g)) (fun g3 => br_c (fun g => h0 ⟨g1, g2, g3, Int32.not_lt.mpr g⟩) (fun g => h1 (fun z => g (Int32.not_lt.mp z.2.2.2))))))
theorem th_make {post : Int32 → St2 → Prop} (hg : th_good p q) (h0 : a1 0 = 0)
    (H : post (ct + 1) (4, an, 0, bl, sw, ct + 1, upd a1 0 bl, upd a2 0 (-1), upd a3 0 (-1), upd a4 0 n, upd a5 0 (ct + 1), upd a6 (th_ix p q) 0, a7, a8)) : wpX_make post (4, an, 0, bl, sw, ct, a1, a2, a3, a4, a5, a6, a7, a8) p q n := by
  unfold wpX_make
  exact th_bad (fun _ => br_t rfl (th_ansN (Or.inl (by decide)) (Exists.intro 1 (br_f (by decide) ⟨pk_in 0 16 (by omega), br_t h0 (br_t (by decide) (br_t (by decide) (nm_e ⟨pk_in 0 16 (by omega), nm_e (br_t (by decide)
    (And.intro (pk_in 0 16 (by omega)) (nm_e ⟨pk_in 0 16 (by omega), nm_e ⟨pk_in 0 16 (by omega), nm_e ⟨pk_in 0 16 (by omega), nm_e ⟨th_in hg, nm_e H⟩⟩⟩⟩)))⟩)))⟩)))) (fun z => absurd hg z)
theorem th_makeB {post : Int32 → St2 → Prop} (hg : ¬ th_good p q) (H : post (-1) (c, an, ph, bl, sw, ct, a1, a2, a3, a4, a5, a6, a7, a8)) : wpX_make post (c, an, ph, bl, sw, ct, a1, a2, a3, a4, a5, a6, a7, a8) p q n := by
  unfold wpX_make
  exact th_bad (fun z => absurd z hg) (fun _ => br_f (by decide) H)
theorem th_copy {post : Int32 → St2 → Prop} (h1 : th_good p q) (h2 : th_good p s)
    (H : post 0 (c, an, 0, bl, sw, ct, a1, a2, a3, a4, a5, upd a6 (th_ix p q) (a6 (th_ix p s)), a7, a8)) : wpX_copy post (c, an, 0, bl, sw, ct, a1, a2, a3, a4, a5, a6, a7, a8) p q s := by
  unfold wpX_copy
  exact th_bad (fun _ => br_t rfl (th_bad (fun _ => br_t rfl (th_ansN (Or.inl (by decide)) (And.intro (th_in h2) (And.intro (th_in h1) (nm_e H))))) (fun z => absurd h2 z))) (fun z => absurd h1 z)
theorem th_copyB {post : Int32 → St2 → Prop} (h : ¬ (th_good p q ∧ th_good p s)) (H : post (-1) (c, an, ph, bl, sw, ct, a1, a2, a3, a4, a5, a6, a7, a8)) : wpX_copy post (c, an, ph, bl, sw, ct, a1, a2, a3, a4, a5, a6, a7, a8) p q s := by
  unfold wpX_copy
  exact th_bad (fun g => br_t rfl (th_bad (fun g2 => absurd ⟨g, g2⟩ h) (fun _ => br_f (by decide) H))) (fun _ => br_f (by decide) H)
theorem th_swap {post : Int32 → St2 → Prop} (h1 : th_good p q) (h2 : th_good t s)
    (H : post 0 (c, an, 0, bl, sw, ct, a1, a2, a3, a4, a5, upd (upd a6 (th_ix p q) (a6 (th_ix t s))) (th_ix t s) (a6 (th_ix p q)), a7, a8)) : wpX_swap post (c, an, 0, bl, sw, ct, a1, a2, a3, a4, a5, a6, a7, a8) p q t s := by
  unfold wpX_swap
  exact th_bad (fun _ => br_t rfl (th_bad (fun _ => br_t rfl (th_ansN (Or.inl (by decide)) (th_ansN (Or.inl (by decide)) (And.intro (th_in h1) (nm_e (And.intro (th_in h2) (And.intro (th_in h1) (nm_e (And.intro (th_in h2) (nm_e H)))))))))) (fun z => absurd h2 z))) (fun z => absurd h1 z)
theorem th_swapB {post : Int32 → St2 → Prop} (h : ¬ (th_good p q ∧ th_good t s)) (H : post (-1) (c, an, ph, bl, sw, ct, a1, a2, a3, a4, a5, a6, a7, a8)) : wpX_swap post (c, an, ph, bl, sw, ct, a1, a2, a3, a4, a5, a6, a7, a8) p q t s := by
  unfold wpX_swap
  exact th_bad (fun g => br_t rfl (th_bad (fun g2 => absurd ⟨g, g2⟩ h) (fun _ => br_f (by decide) H))) (fun _ => br_f (by decide) H)
theorem th_drop {post : Int32 → St2 → Prop} (h1 : th_good p q)
    (H : post 0 (c, an, 0, bl, sw, ct, a1, a2, a3, a4, a5, upd a6 (th_ix p q) (-1), a7, a8)) : wpX_drop post (c, an, 0, bl, sw, ct, a1, a2, a3, a4, a5, a6, a7, a8) p q := by
  unfold wpX_drop
  exact th_bad (fun _ => br_t rfl (th_ansN (Or.inl (by decide)) (And.intro (th_in h1) (nm_e H)))) (fun z => absurd h1 z)
theorem th_dropB {post : Int32 → St2 → Prop} (h : ¬ th_good p q) (H : post (-1) (c, an, ph, bl, sw, ct, a1, a2, a3, a4, a5, a6, a7, a8)) : wpX_drop post (c, an, ph, bl, sw, ct, a1, a2, a3, a4, a5, a6, a7, a8) p q := by
  unfold wpX_drop
  exact th_bad (fun z => absurd z h) (fun _ => br_f (by decide) H)
theorem th_tag0 {post : Int32 → Prop} (hx : p = -1) (H : post 0) : wpX_tagOf post (c, an, ph, bl, sw, ct, a1, a2, a3, a4, a5, a6, a7, a8) p := by
  subst hx
  exact br_f (by decide) H
theorem th_tag1 {post : Int32 → Prop} (hx : p = 0) (H : post (a5 0)) : wpX_tagOf post (c, an, ph, bl, sw, ct, a1, a2, a3, a4, a5, a6, a7, a8) p := by
  subst hx
  exact br_t (by decide) ⟨pk_in 0 16 (by omega), H⟩
theorem th_ser0 {post : Int32 → Prop} (h : th_good p q) (hx : a6 (th_ix p q) = -1) (H : post 0) : wpX_serial post (c, an, ph, bl, sw, ct, a1, a2, a3, a4, a5, a6, a7, a8) p q := by
  unfold wpX_serial
  exact th_bad (fun _ => br_t rfl (And.intro (th_in h) (th_tag0 hx H))) (fun z => absurd h z)
theorem th_ser1 {post : Int32 → Prop} (h : th_good p q) (hx : a6 (th_ix p q) = 0) (H : post (a5 0)) : wpX_serial post (c, an, ph, bl, sw, ct, a1, a2, a3, a4, a5, a6, a7, a8) p q := by
  unfold wpX_serial
  exact th_bad (fun _ => br_t rfl (And.intro (th_in h) (th_tag1 hx H))) (fun z => absurd h z)
theorem th_serB {post : Int32 → Prop} (h : ¬ th_good p q) (H : post (-1)) : wpX_serial post (c, an, ph, bl, sw, ct, a1, a2, a3, a4, a5, a6, a7, a8) p q := by
  unfold wpX_serial
  exact th_bad (fun z => absurd z h) (fun _ => br_f (by decide) H)
theorem th_num0 {post : Int32 → Prop} (h : th_good p q) (hx : a6 (th_ix p q) = -1) (H : post 0) : wpX_number post (c, an, ph, bl, sw, ct, a1, a2, a3, a4, a5, a6, a7, a8) p q := by
  unfold wpX_number
  exact th_bad (fun _ => br_t rfl (And.intro (th_in h) (nm_r hx (br_f (by decide) H)))) (fun z => absurd h z)
theorem th_num1 {post : Int32 → Prop} (h : th_good p q) (hx : a6 (th_ix p q) = 0) (H : post (a4 0)) : wpX_number post (c, an, ph, bl, sw, ct, a1, a2, a3, a4, a5, a6, a7, a8) p q := by
  unfold wpX_number
  exact th_bad (fun _ => br_t rfl (And.intro (th_in h) (nm_r hx (br_t (by decide) ⟨pk_in 0 16 (by omega), H⟩)))) (fun z => absurd h z)
theorem th_numB {post : Int32 → Prop} (h : ¬ th_good p q) (H : post 0) : wpX_number post (c, an, ph, bl, sw, ct, a1, a2, a3, a4, a5, a6, a7, a8) p q := by
  unfold wpX_number
  exact th_bad (fun z => absurd z h) (fun _ => br_f (by decide) H)
theorem th_i96 {post : St2 → Prop} {mc ms kc ks : Nat} (H : ∀ r, th_neg r → post (c, an, ph, bl, sw, ct, a1, a2, a3, a4, a5, r, upd (upd a7 0 (-1)) 1 (-1), a8)) : ∃ n, wX_init_96 post mc ms kc ks c an ph bl sw ct n 0 a1 a2 a3 a4 a5 a6 a7 a8 :=
  pk_loop (fun n i s => wX_init_96 post mc ms kc ks c an ph bl sw ct n (nI i) a1 a2 a3 a4 a5 s a7 a8) (fun i s => ∀ j, j < i → s j = -1) 12 0 a6 (by omega) (fun j hj => absurd hj (by omega))
    (fun n s h => pk_le 12 12 (fun _ => nm_e (nm_e (H s h))) (fun z => absurd z (by omega)))
    (fun n i s hi h hw => pk_le 12 i (fun z => absurd z (by omega)) (fun _ => ⟨pk_in i 12 hi, nm_e (nm_r (nI_1 i) (hw _ (fun j hj => by
      rw [nI_clamp (by omega)]
      by_cases e : j = i
      · rw [e, pk_us]
      · rw [pk_un e]
        exact h j (by omega))))⟩))
theorem th_init {post : St2 → Prop} (H : ∀ r, th_neg r → post (4, 0, 0, 1, 0, 0, fun _ => 0, fun _ => 0, fun _ => 0, fun _ => 0, fun _ => 0, r, upd (upd (fun _ => 0) 0 (-1)) 1 (-1), fun _ => 0)) : wpX_init post 8 97 (0, 0, 0, 0, 0, 0) 4 :=
  And.intro (by omega) ⟨by omega, by omega, by omega, by omega, by omega, by omega, by omega, by omega, by omega, by omega, by omega, by omega, by omega, by omega, by omega, br_t (by decide) (br_t (by decide) (th_i96 H))⟩
end
end
section
section
variable {post : Int32 → St0 → Prop} {mc ms kc ks : Nat} {p0 p1 p2 p3 p4 x6 x7 x8 x9 x10 x11 x12 x13 x14 x15 x16 x17 x18 b2 b3 b4 : Int32}
def th_is (P : Prop) (b : Int32) : Prop := P ∧ b = 1 ∨ ¬ P ∧ b = 0
theorem th_375 {z0 z1 : Int32} (h : z1 = z0) (hp : post 1 ()) : wL_lawOf_375 post mc ms z0 z1 kc ks := br_t h hp
theorem th_360 {z0 z1 : Int32} (h : z1 = z0) (h14 : x14 = if x15 = 0 then 0 else 1) (hp : post 1 ()) : wL_lawOf_360 post mc ms x14 x15 z0 z1 kc ks :=
  br_t h (br_c (fun e => th_375 (h14.trans (if_pos e)) hp) (fun e => th_375 (h14.trans (if_neg e)) hp))
theorem th_325 {z0 z1 : Int32} (h : z1 = z0) (h13 : x13 = if ¬ x18 = 0 ∨ (¬ x15 = 0 ∧ ¬ x16 = 0 ∧ x17 = 0 ∧ ¬ p2 = p1) then 1 else 0) (h14 : x14 = if x15 = 0 then 0 else 1) (hp : post 1 ()) : wL_lawOf_325 post mc ms p1 p2 x13 x14 x15 x16 x17 x18 z0 z1 kc ks := by
  have T : (¬ x18 = 0 ∨ (¬ x15 = 0 ∧ ¬ x16 = 0 ∧ x17 = 0 ∧ ¬ p2 = p1)) → wL_lawOf_355 post mc ms x14 x15 x13 kc ks := fun e => th_360 (h13.trans (if_pos e)) h14 hp
  have F : ¬ (¬ x18 = 0 ∨ (¬ x15 = 0 ∧ ¬ x16 = 0 ∧ x17 = 0 ∧ ¬ p2 = p1)) → wL_lawOf_359 post mc ms x14 x15 x13 kc ks := fun e => th_360 (h13.trans (if_neg e)) h14 hp
  refine br_t h (br_c (fun e18 => ?_) (fun e18 => T (Or.inl e18)))
  refine br_c (fun e15 => F ?_) (fun e15 => br_c (fun e16 => F ?_) (fun e16 => br_c (fun e17 => br_c (fun e => F ?_) (fun e => T (Or.inr ⟨e15, e16, e17, e⟩))) (fun e17 => F ?_)))
  · exact fun z => z.elim (fun y => y e18) (fun y => y.1 e15)
  · exact fun z => z.elim (fun y => y e18) (fun y => y.2.1 e16)
  · exact fun z => z.elim (fun y => y e18) (fun y => y.2.2.2 e)
  · exact fun z => z.elim (fun y => y e18) (fun y => e17 y.2.2.1)
theorem th_202 (h6 : x6 = if x15 = 0 then -1 else 1) (h7 : x7 = if x15 = 0 ∨ x16 = 0 then -1 else 0) (h8 : x8 = if x16 = 0 ∨ x17 = 0 then -1 else 0) (h9 : x9 = if x15 = 0 then -1 else 0)
    (h10 : x10 = if x17 = 0 then -1 else if x18 = 0 then 0 else 1) (h11 : x11 = if x18 = 0 then 0 else p3) (h12 : x12 = if x15 = 0 then -1 else 0)
    (h13 : x13 = if ¬ x18 = 0 ∨ (¬ x15 = 0 ∧ ¬ x16 = 0 ∧ x17 = 0 ∧ ¬ p2 = p1) then 1 else 0) (h14 : x14 = if x15 = 0 then 0 else 1) (hp : post 1 ()) :
    wL_lawOf_202 post mc ms p1 p2 p3 x6 x7 x8 x9 x10 x11 x12 x13 x14 x15 x16 x17 x18 kc ks := by
  have T325 : ∀ z, x12 = z → wL_lawOf_325 post mc ms p1 p2 x13 x14 x15 x16 x17 x18 z x12 kc ks := fun z h => th_325 h h13 h14 hp
  have T310 : ∀ z, x11 = z → wL_lawOf_310 post mc ms p1 p2 x12 x13 x14 x15 x16 x17 x18 z x11 kc ks := fun z h =>
    br_t h (br_c (fun e => T325 _ (h12.trans (if_pos e))) (fun e => T325 _ (h12.trans (if_neg e))))
  have T295 : ∀ z, x10 = z → wL_lawOf_295 post mc ms p1 p2 p3 x11 x12 x13 x14 x15 x16 x17 x18 z x10 kc ks := fun z h =>
    br_t h (br_c (fun e => T310 _ (h11.trans (if_pos e))) (fun e => T310 _ (h11.trans (if_neg e))))
  have T271 : ∀ z, x9 = z → wL_lawOf_271 post mc ms p1 p2 p3 x10 x11 x12 x13 x14 x15 x16 x17 x18 z x9 kc ks := fun z h =>
    br_t h (br_c (fun e => T295 _ (h10.trans (if_pos e))) (fun e => br_c (fun e' => T295 _ (h10.trans ((if_neg e).trans (if_pos e')))) (fun e' => T295 _ (h10.trans ((if_neg e).trans (if_neg e'))))))
  have T256 : ∀ z, x8 = z → wL_lawOf_256 post mc ms p1 p2 p3 x9 x10 x11 x12 x13 x14 x15 x16 x17 x18 z x8 kc ks := fun z h =>
    br_t h (br_c (fun e => T271 _ (h9.trans (if_pos e))) (fun e => T271 _ (h9.trans (if_neg e))))
  have T236 : ∀ z, x7 = z → wL_lawOf_236 post mc ms p1 p2 p3 x8 x9 x10 x11 x12 x13 x14 x15 x16 x17 x18 z x7 kc ks := fun z h =>
    br_t h (br_c (fun e => T256 _ (h8.trans (if_pos (Or.inl e)))) (fun e => br_c (fun e' => T256 _ (h8.trans (if_pos (Or.inr e')))) (fun e' => T256 _ (h8.trans (if_neg (fun z => z.elim e e'))))))
  have T216 : ∀ z, x6 = z → wL_lawOf_216 post mc ms p1 p2 p3 x7 x8 x9 x10 x11 x12 x13 x14 x15 x16 x17 x18 z x6 kc ks := fun z h =>
    br_t h (br_c (fun e => T236 _ (h7.trans (if_pos (Or.inl e)))) (fun e => br_c (fun e' => T236 _ (h7.trans (if_pos (Or.inr e')))) (fun e' => T236 _ (h7.trans (if_neg (fun z => z.elim e e'))))))
  exact br_c (fun e => T216 _ (h6.trans (if_pos e))) (fun e => T216 _ (h6.trans (if_neg e)))
/-- the law's last row: the bits first (b1), second (b2), third (b3), moved (b4), and the answers that they ask for -/
theorem th_169 (k4 : th_is (¬ x15 = 0 ∧ ¬ x16 = 0 ∧ ¬ x17 = 0 ∧ ¬ (p4 = p0 ∧ p2 = p1)) b4)
    (h : wL_lawOf_202 post mc ms p1 p2 p3 x6 x7 x8 x9 x10 x11 x12 x13 x14 x15 x16 x17 b4 kc ks) : wL_lawOf_169 post mc ms p0 p1 p2 p3 p4 x6 x7 x8 x9 x10 x11 x12 x13 x14 x15 x16 x17 kc ks := by
  rcases k4 with ⟨⟨e1, e2, e3, e4⟩, rfl⟩ | ⟨e, rfl⟩
  · exact br_f e1 (br_f e2 (br_f e3 (br_c (fun g => br_f (fun g' => e4 ⟨g, g'⟩) h) (fun _ => h))))
  · exact br_c (fun _ => h) (fun e1 => br_c (fun _ => h) (fun e2 => br_c (fun _ => h) (fun e3 => br_c (fun g => br_c (fun _ => h) (fun g' => absurd ⟨e1, e2, e3, fun y => g' y.2⟩ e)) (fun g => absurd ⟨e1, e2, e3, fun y => g y.1⟩ e))))
theorem th_142 (k3 : th_is (th_good p4 p2) b3) (h : wL_lawOf_169 post mc ms p0 p1 p2 p3 p4 x6 x7 x8 x9 x10 x11 x12 x13 x14 x15 x16 b3 kc ks) : wL_lawOf_142 post mc ms p0 p1 p2 p3 p4 x6 x7 x8 x9 x10 x11 x12 x13 x14 x15 x16 kc ks := by
  rcases k3 with ⟨g, rfl⟩ | ⟨g, rfl⟩
  · exact th_br (p := p4) (q := p2) (fun _ => h) (fun z => absurd g z)
  · exact th_br (p := p4) (q := p2) (fun z => absurd z g) (fun _ => h)
theorem th_117 (k2 : th_is (th_good p0 p2) b2) (h : wL_lawOf_142 post mc ms p0 p1 p2 p3 p4 x6 x7 x8 x9 x10 x11 x12 x13 x14 x15 b2 kc ks) : wL_lawOf_117 post mc ms p0 p1 p2 p3 p4 x6 x7 x8 x9 x10 x11 x12 x13 x14 x15 kc ks := by
  rcases k2 with ⟨g, rfl⟩ | ⟨g, rfl⟩
  · exact th_br (p := p0) (q := p2) (fun _ => h) (fun z => absurd g z)
  · exact th_br (p := p0) (q := p2) (fun z => absurd z g) (fun _ => h)
/-- the whole check; x15 is the bit first -/
theorem th_end (b1 b2 b3 b4 : Int32) (k1 : th_is (th_good p0 p1) b1) (k2 : th_is (th_good p0 p2) b2) (k3 : th_is (th_good p4 p2) b3) (k4 : th_is (¬ b1 = 0 ∧ ¬ b2 = 0 ∧ ¬ b3 = 0 ∧ ¬ (p4 = p0 ∧ p2 = p1)) b4)
    (h6 : x6 = if b1 = 0 then -1 else 1) (h7 : x7 = if b1 = 0 ∨ b2 = 0 then -1 else 0) (h8 : x8 = if b2 = 0 ∨ b3 = 0 then -1 else 0) (h9 : x9 = if b1 = 0 then -1 else 0)
    (h10 : x10 = if b3 = 0 then -1 else if b4 = 0 then 0 else 1) (h11 : x11 = if b4 = 0 then 0 else p3) (h12 : x12 = if b1 = 0 then -1 else 0)
    (h13 : x13 = if ¬ b4 = 0 ∨ (¬ b1 = 0 ∧ ¬ b2 = 0 ∧ b3 = 0 ∧ ¬ p2 = p1) then 1 else 0) (h14 : x14 = if b1 = 0 then 0 else 1) (hp : post 1 ()) :
    (p0 < 0 → wL_lawOf_116 post mc ms p0 p1 p2 p3 p4 x6 x7 x8 x9 x10 x11 x12 x13 x14 kc ks) ∧ (¬ p0 < 0 → ((2 < p0 → wL_lawOf_116 post mc ms p0 p1 p2 p3 p4 x6 x7 x8 x9 x10 x11 x12 x13 x14 kc ks) ∧ (¬ 2 < p0 → ((p1 < 0 → wL_lawOf_116 post mc ms p0 p1 p2 p3 p4 x6 x7 x8 x9 x10 x11 x12 x13 x14 kc ks) ∧ (¬ p1 < 0 → ((3 < p1 → wL_lawOf_116 post mc ms p0 p1 p2 p3 p4 x6 x7 x8 x9 x10 x11 x12 x13 x14 kc ks) ∧ (¬ 3 < p1 → wL_lawOf_117 post mc ms p0 p1 p2 p3 p4 x6 x7 x8 x9 x10 x11 x12 x13 x14 1 kc ks))))))) := by
  have h : wL_lawOf_117 post mc ms p0 p1 p2 p3 p4 x6 x7 x8 x9 x10 x11 x12 x13 x14 b1 kc ks := th_117 k2 (th_142 k3 (th_169 k4 (th_202 h6 h7 h8 h9 h10 h11 h12 h13 h14 hp)))
  rcases k1 with ⟨g, rfl⟩ | ⟨g, rfl⟩
  · exact th_br (fun _ => h) (fun z => absurd g z)
  · exact th_br (fun z => absurd z g) (fun _ => h)
end
end
section
section
variable {r : Nat → Int32} {i j k : Nat}
theorem th_f1 (hr : th_neg r) : th_neg (upd (upd r i 0) i (-1)) := th_neg_d (fun _ hj e => (pk_un e).trans (hr _ hj))
theorem th_f2 (hr : th_neg r) : th_neg (upd (upd (upd r i 0) i (upd r i 0 i)) i (-1)) := th_neg_d (fun _ hj e => (pk_un e).trans ((pk_un e).trans (hr _ hj)))
theorem th_f3 {v w : Int32} (hr : th_neg r) : th_neg (upd (upd (upd (upd (upd r i 0) i (upd r i 0 i)) i v) i w) i (-1)) := th_neg_d (fun _ hj e => (pk_un e).trans ((pk_un e).trans ((pk_un e).trans ((pk_un e).trans (hr _ hj)))))
theorem th_k2 (hr : th_neg r) : th_ok (upd (upd r i 0) j (upd r i 0 i)) := th_ok_u (th_ok_u (th_ok_n hr) (Or.inr rfl)) (Or.inr pk_us)
theorem th_k4 (hr : th_ok r) (hj : j < 12) (hk : k < 12) : th_ok (upd (upd (upd r j (r k)) k (r j)) i (-1)) := th_ok_u (th_ok_u (th_ok_u hr (hr k hk)) (hr j hj)) (Or.inl rfl)
theorem th_v2 (h : j ≠ i) : upd (upd (upd r i 0) j (upd r i 0 i)) i (-1) j = 0 := (pk_un h).trans (pk_us.trans pk_us)
theorem th_v4 {v : Int32} (h : k ≠ i) : upd (upd (upd (upd (upd r i 0) j (upd r i 0 i)) j v) k (upd (upd r i 0) j (upd r i 0 i) j)) i (-1) k = 0 := (pk_un h).trans (pk_us.trans (pk_us.trans pk_us))
end
section
theorem th_lawOf (p0 p1 p2 p3 p4 : Int32) : wpL_lawOf (fun r _ => r = 1) 74 1184 () p0 p1 p2 p3 p4 := by
  refine And.intro (by omega) (And.intro (by omega) ⟨8, 97, by omega, by omega, th_init (fun r hr => ?_)⟩)
  have G0 : upd (upd (fun _ => (0 : Int32)) 0 (-1)) 1 (-1) 0 = -1 := (pk_un (by decide)).trans pk_us
  have G1 : upd (upd (fun _ => (0 : Int32)) 0 (-1)) 1 (-1) 1 = -1 := pk_us
  have P0 : th_P 0 (fun _ => (0 : Int32)) := ⟨rfl, rfl, rfl, rfl⟩
  have P1 : th_P 1 (upd (fun _ => (0 : Int32)) 0 1) := th_Pu P0 1
  have L : upd (fun _ => (0 : Int32)) 0 (-1) 0 = -1 := pk_us
  by_cases g1 : th_good p0 p1
  · refine th_make g1 rfl ?_
    by_cases g2 : th_good p0 p2
    · refine th_copy g2 g1 ?_
      by_cases g3 : th_good p4 p2
      · by_cases e : p4 = p0 ∧ p2 = p1
        · obtain ⟨rfl, rfl⟩ := e
          refine th_swap g2 g3 (th_drop g1 ?_)
          refine th_ser0 g3 pk_us (th_num0 g3 pk_us (th_ser0 g1 pk_us ?_))
          refine th_live (k := 1) (v := 0) P1 (th_ok_n (th_f3 hr)) G0 G1 (Or.inr ⟨Or.inr (th_rcs1 (th_neg_ne (th_f3 hr))), rfl⟩) (fun b b' => ?_)
          exact th_end 1 1 1 0 (Or.inl ⟨g1, rfl⟩) (Or.inl ⟨g2, rfl⟩) (Or.inl ⟨g3, rfl⟩) (Or.inr ⟨fun z => z.2.2.2 ⟨rfl, rfl⟩, rfl⟩)
            (by decide) (by decide) (by decide) (by decide) (by decide) rfl (by decide) (if_neg (fun z => z.elim (fun y => y rfl) (fun y => absurd y.2.2.1 (by decide)))).symm (by decide) rfl
        · have ne : th_ix p4 p2 ≠ th_ix p0 p1 := fun z => e (th_inj g3 g1 z)
          refine th_swap g2 g3 (th_drop g1 ?_)
          refine th_ser1 g3 (th_v4 ne) (th_num1 g3 (th_v4 ne) (th_ser0 g1 pk_us ?_))
          refine th_live (k := 1) (v := 1) P1 (th_k4 (th_k2 hr) (th_lt g2) (th_lt g3)) G0 G1 (Or.inl ⟨⟨th_rcs3 (th_lt g3) (th_v4 ne), L, L⟩, rfl⟩) (fun b b' => ?_)
          exact th_end 1 1 1 1 (Or.inl ⟨g1, rfl⟩) (Or.inl ⟨g2, rfl⟩) (Or.inl ⟨g3, rfl⟩) (Or.inl ⟨⟨by decide, by decide, by decide, e⟩, rfl⟩)
            (by decide) (by decide) (by decide) (by decide) (by decide) rfl (by decide) (if_pos (Or.inl (by decide))).symm (by decide) rfl
      · refine th_swapB (fun z => g3 z.2) (th_drop g1 ?_)
        by_cases e : p2 = p1
        · subst e
          refine th_serB g3 (th_numB g3 (th_ser0 g1 pk_us ?_))
          refine th_live (k := 1) (v := 0) P1 (th_ok_n (th_f2 hr)) G0 G1 (Or.inr ⟨Or.inr (th_rcs1 (th_neg_ne (th_f2 hr))), rfl⟩) (fun b b' => ?_)
          exact th_end 1 1 0 0 (Or.inl ⟨g1, rfl⟩) (Or.inl ⟨g2, rfl⟩) (Or.inr ⟨g3, rfl⟩) (Or.inr ⟨fun z => z.2.2.1 rfl, rfl⟩)
            (by decide) (by decide) (by decide) (by decide) (by decide) rfl (by decide) (if_neg (fun z => z.elim (fun y => y rfl) (fun y => y.2.2.2 rfl))).symm (by decide) rfl
        · have ne : th_ix p0 p2 ≠ th_ix p0 p1 := fun z => e (th_inj g2 g1 z).2
          refine th_serB g3 (th_numB g3 (th_ser0 g1 pk_us ?_))
          refine th_live (k := 1) (v := 1) P1 (th_ok_u (th_k2 hr) (Or.inl rfl)) G0 G1 (Or.inl ⟨⟨th_rcs3 (th_lt g2) (th_v2 ne), L, L⟩, rfl⟩) (fun b b' => ?_)
          exact th_end 1 1 0 0 (Or.inl ⟨g1, rfl⟩) (Or.inl ⟨g2, rfl⟩) (Or.inr ⟨g3, rfl⟩) (Or.inr ⟨fun z => z.2.2.1 rfl, rfl⟩)
            (by decide) (by decide) (by decide) (by decide) (by decide) rfl (by decide) (if_pos (Or.inr ⟨by decide, by decide, rfl, e⟩)).symm (by decide) rfl
    · have g3 : ¬ th_good p4 p2 := fun z => g2 ⟨g1.1, g1.2.1, z.2.2⟩
      refine th_copyB (fun z => g2 z.1) (th_swapB (fun z => g2 z.1) (th_drop g1 ?_))
      refine th_serB g3 (th_numB g3 (th_ser0 g1 pk_us ?_))
      refine th_live (k := 1) (v := 0) P1 (th_ok_n (th_f1 hr)) G0 G1 (Or.inr ⟨Or.inr (th_rcs1 (th_neg_ne (th_f1 hr))), rfl⟩) (fun b b' => ?_)
      exact th_end 1 0 0 0 (Or.inl ⟨g1, rfl⟩) (Or.inr ⟨g2, rfl⟩) (Or.inr ⟨g3, rfl⟩) (Or.inr ⟨fun z => z.2.1 rfl, rfl⟩)
        (by decide) (by decide) (by decide) (by decide) (by decide) rfl (by decide) (if_neg (fun z => z.elim (fun y => y rfl) (fun y => y.2.1 rfl))).symm (by decide) rfl
  · refine th_makeB g1 (th_copyB (fun z => g1 z.2) ?_)
    by_cases g2 : th_good p0 p2
    · by_cases g3 : th_good p4 p2
      · have hr' : th_neg (upd (upd r (th_ix p0 p2) (r (th_ix p4 p2))) (th_ix p4 p2) (r (th_ix p0 p2))) := th_neg_u (th_neg_u hr (hr _ (th_lt g3))) (hr _ (th_lt g2))
        refine th_swap g2 g3 (th_dropB g1 ?_)
        refine th_ser0 g3 (hr' _ (th_lt g3)) (th_num0 g3 (hr' _ (th_lt g3)) (th_serB g1 ?_))
        refine th_live (k := 0) (v := 0) P0 (th_ok_n hr') G0 G1 (Or.inr ⟨Or.inl (th_rcs0 _ 12), rfl⟩) (fun b b' => ?_)
        exact th_end 0 1 1 0 (Or.inr ⟨g1, rfl⟩) (Or.inl ⟨g2, rfl⟩) (Or.inl ⟨g3, rfl⟩) (Or.inr ⟨fun z => z.1 rfl, rfl⟩)
          (by decide) (by decide) (by decide) (by decide) (by decide) rfl (by decide) (if_neg (fun z => z.elim (fun y => y rfl) (fun y => y.1 rfl))).symm (by decide) rfl
      · refine th_swapB (fun z => g3 z.2) (th_dropB g1 ?_)
        refine th_serB g3 (th_numB g3 (th_serB g1 ?_))
        refine th_live (k := 0) (v := 0) P0 (th_ok_n hr) G0 G1 (Or.inr ⟨Or.inl (th_rcs0 _ 12), rfl⟩) (fun b b' => ?_)
        exact th_end 0 1 0 0 (Or.inr ⟨g1, rfl⟩) (Or.inl ⟨g2, rfl⟩) (Or.inr ⟨g3, rfl⟩) (Or.inr ⟨fun z => z.1 rfl, rfl⟩)
          (by decide) (by decide) (by decide) (by decide) (by decide) rfl (by decide) (if_neg (fun z => z.elim (fun y => y rfl) (fun y => y.1 rfl))).symm (by decide) rfl
    · refine th_swapB (fun z => g2 z.1) (th_dropB g1 ?_)
      by_cases g3 : th_good p4 p2
      · refine th_ser0 g3 (hr _ (th_lt g3)) (th_num0 g3 (hr _ (th_lt g3)) (th_serB g1 ?_))
        refine th_live (k := 0) (v := 0) P0 (th_ok_n hr) G0 G1 (Or.inr ⟨Or.inl (th_rcs0 _ 12), rfl⟩) (fun b b' => ?_)
        exact th_end 0 0 1 0 (Or.inr ⟨g1, rfl⟩) (Or.inr ⟨g2, rfl⟩) (Or.inl ⟨g3, rfl⟩) (Or.inr ⟨fun z => z.1 rfl, rfl⟩)
          (by decide) (by decide) (by decide) (by decide) (by decide) rfl (by decide) (if_neg (fun z => z.elim (fun y => y rfl) (fun y => y.1 rfl))).symm (by decide) rfl
      · refine th_serB g3 (th_numB g3 (th_serB g1 ?_))
        refine th_live (k := 0) (v := 0) P0 (th_ok_n hr) G0 G1 (Or.inr ⟨Or.inl (th_rcs0 _ 12), rfl⟩) (fun b b' => ?_)
        exact th_end 0 0 0 0 (Or.inr ⟨g1, rfl⟩) (Or.inr ⟨g2, rfl⟩) (Or.inr ⟨g3, rfl⟩) (Or.inr ⟨fun z => z.1 rfl, rfl⟩)
          (by decide) (by decide) (by decide) (by decide) (by decide) rfl (by decide) (if_neg (fun z => z.elim (fun y => y rfl) (fun y => y.1 rfl))).symm (by decide) rfl
end
end
section
theorem th_cell {post : Int32 → Prop} {L : Nat} {xs : Nat → Int32} {u : St0} (hL : L ≤ 5) (k : Nat) (hk : k < 5) (H : ∀ r, post r) : wpL_cellAt post L xs u (nI k) :=
  pk_le L k (fun _ => H _) (fun h => ⟨pk_in k L h, H _⟩)
theorem i_vc (xs : Nat → Int32) (L : Nat) (hL : L ≤ 5) : wpL_law (fun r => r = 1) L xs :=
  th_cell hL 0 (by omega) (fun r1 => th_cell hL 1 (by omega) (fun r2 => th_cell hL 2 (by omega) (fun r3 => th_cell hL 3 (by omega) (fun r4 => th_cell hL 4 (by omega) (fun r5 => ⟨74, 1184, by omega, by omega, th_lawOf r1 r2 r3 r4 r5⟩)))))
end
