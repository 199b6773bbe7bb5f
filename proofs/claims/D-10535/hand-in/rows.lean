section
theorem qz_4 (i j : Nat) : (4 : Int32) * nI i + nI j = nI (4 * i + j) := by
  rw [show (4 : Int32) = nI 4 from rfl, pk_mul, nI_add]
theorem qz_4p {i j : Nat} (h : 1 ≤ j) : (4 : Int32) * nI i + nI j - 1 = nI (4 * i + j - 1) := by
  rw [qz_4, show (1 : Int32) = nI 1 from rfl, pk_sub (by omega)]
theorem qz_4m {i k j : Nat} (h : j < k) : (4 : Int32) * nI i + nI k - 1 - nI j = nI (4 * i + k - 1 - j) := by
  rw [qz_4p (by omega), pk_sub (by omega)]
theorem qz_sm {i k j : Nat} (h : k ≤ i) : nI i - nI k + nI j = nI (i - k + j) := by
  rw [pk_sub h, nI_add]
theorem qz_2 {k : Nat} (h : 1 ≤ k) : (2 : Int32) * nI k - 2 = nI (2 * k - 2) := by
  rw [show (2 : Int32) = nI 2 from rfl, pk_mul, pk_sub (by omega)]
theorem qz_p1 {k : Nat} (h : 1 ≤ k) : nI k - 1 = nI (k - 1) := by
  rw [show (1 : Int32) = nI 1 from rfl, pk_sub h]
theorem qz_neg (x : Int32) : x + (-1) = x - 1 := by
  grind
theorem qz_m1 : nI 0 - 1 < 0 := by decide
theorem qz_997 : ¬ (997 : Int32) = 0 := by decide
theorem qz_z (x : Int32) : (0 + x * 0) - (0 + x * 0) / 997 * 997 = 0 := by
  rw [Int32.mul_zero]
  decide
theorem qz_gt {x : Int32} (h : ¬ x < 1) : (0 : Int32) < x := by
  rw [Int32.lt_iff_toInt_lt] at h ⊢
  have h1 : (1 : Int32).toInt = 1 := by decide
  have h0 : (0 : Int32).toInt = 0 := by decide
  omega
/-- the rest that modulo and norm answer -/
def qz_mod (v : Int32) : Int32 := if 0 ≤ v - v / 997 * 997 then v - v / 997 * 997 else v - v / 997 * 997 + 997
theorem qz_modulo {post : Int32 → Prop} {v : Int32} (h : post (qz_mod v)) : wpX_modulo post () v := by
  unfold wpX_modulo
  refine ⟨qz_997, nm_e (br_c (fun z => ?_) (fun z => ?_))⟩
  · unfold qz_mod at h
    rw [if_pos z] at h
    exact h
  · unfold qz_mod at h
    rw [if_neg z] at h
    exact h
theorem qz_norm {post : Int32 → Prop} {v : Int32} (h : post (qz_mod v)) : wpL_norm post () v := by
  unfold wpL_norm
  refine ⟨qz_997, nm_e (br_c (fun z => ?_) (fun z => ?_))⟩
  · unfold qz_mod at h
    rw [if_pos z] at h
    exact h
  · unfold qz_mod at h
    rw [if_neg z] at h
    exact h
theorem qz_bad {post : Int32 → Prop} {x : Int32} (hx : x < 0 ∨ 2 < x) (h : post 0) : wpX_isGood post () x := by
  unfold wpX_isGood
  exact br_c (fun _ => h) (fun z => br_t (hx.resolve_left z) h)
theorem qz_good {post : Int32 → Prop} {i : Nat} (hi : i < 3) (h : post 1) : wpX_isGood post () (nI i) := by
  unfold wpX_isGood
  exact pk_lt i 0 (fun z => absurd z (by omega)) (fun _ => pk_lt 2 i (fun z => absurd z (by omega)) (fun _ => h))
theorem qz_cell {post : Int32 → Prop} {L i : Nat} {xs : Nat → Int32} (hL : L ≤ 5) (hi : i < 5) (h : ∀ r, post r) : wpL_cellAt post L xs () (nI i) := by
  unfold wpL_cellAt
  exact pk_le L i (fun _ => h _) (fun z => ⟨pk_in i L z, h _⟩)
end
section
theorem qz_tr {post : St2 → Prop} {sz : Int32} {a1 a2 a3 a4 a5 a6 a7 a8 a9 a10 a11 a12 a13 : Nat → Int32} {i k : Nat} (hi : i < 3) (hk : k ≤ 4) (ha : a1 i = nI k) (H : ∀ b4, post (sz, a1, a2, a3, b4, a5, a6, a7, a8, a9, a10, a11, a12, a13)) : wpX_takeRule post (sz, a1, a2, a3, a4, a5, a6, a7, a8, a9, a10, a11, a12, a13) (nI i) := by
  unfold wpX_takeRule
  refine ⟨pk_in i 3 hi, nm_r (e' := nI k) (by rw [nI_clamp (by omega)]; exact ha) ?_⟩
  exact pk_loop (fun n j s => wX_takeRule_9 post (nI i) (nI k) sz n (nI j) a1 a2 a3 s a5 a6 a7 a8 a9 a10 a11 a12 a13) (fun _ _ => True) 6 0 a4 (by omega) trivial
    (fun n s _ => pk_le 6 6 (fun _ => H s) (fun z => absurd z (by omega)))
    (fun n j s hj _ hw => pk_le 6 j (fun z => absurd z (by omega)) (fun _ => pk_le k j
      (fun _ => ⟨pk_in j 6 hj, nm_e (nm_r (nI_1 j) (hw _ trivial))⟩)
      (fun z => ⟨pk_in (4 * i + k - 1 - j) 12 (by omega) (qz_4m z), pk_in j 6 hj, nm_e (nm_r (nI_1 j) (hw _ trivial))⟩)))
theorem qz_s172 {post : St2 → Prop} {a1 a2 a3 a4 a5 a6 a7 a8 a9 a10 a11 a12 a13 : Nat → Int32} {k : Nat} (hk : k ≤ 4) (H : ∀ b6, post (nI k, a1, a2, a3, a4, a5, b6, a7, a8, a9, a10, a11, a12, a13)) : ∃ n, wX_squarePower_172 post (nI k) n 0 a1 a2 a3 a4 a5 a6 a7 a8 a9 a10 a11 a12 a13 :=
  pk_loop (fun n i s => wX_squarePower_172 post (nI k) n (nI i) a1 a2 a3 a4 a5 s a7 a8 a9 a10 a11 a12 a13) (fun _ _ => True) k 0 a6 (by omega) trivial
    (fun n s _ => pk_le k k (fun _ => H s) (fun z => absurd z (by omega)))
    (fun n i s hi _ hw => pk_le k i (fun z => absurd z (by omega)) (fun _ => ⟨pk_in i 10 (by omega), pk_in i 5 (by omega), nm_e (nm_r (nI_1 i) (hw _ trivial))⟩))
theorem qz_s106 {post : St2 → Prop} {J : Int32 → (Nat → Int32) → (Nat → Int32) → (Nat → Int32) → (Nat → Int32) → (Nat → Int32) → (Nat → Int32) → (Nat → Int32) → (Nat → Int32) → (Nat → Int32) → (Nat → Int32) → (Nat → Int32) → (Nat → Int32) → (Nat → Int32) → Prop} {a1 a2 a3 a4 a5 a6 a7 a8 a9 a10 a11 a12 a13 : Nat → Int32} {k i : Nat} (hk : k ≤ 4) (h1 : k ≤ i) (h2 : i ≤ 6) (H : ∀ b8, J (nI i + (-1)) a1 a2 a3 a4 a5 a6 a7 b8 a9 a10 a11 a12 a13) : ∃ n, wX_squarePower_106 post J (nI i) (nI k) n 0 a1 a2 a3 a4 a5 a6 a7 a8 a9 a10 a11 a12 a13 :=
  pk_loop (fun n j s => wX_squarePower_106 post J (nI i) (nI k) n (nI j) a1 a2 a3 a4 a5 a6 a7 s a9 a10 a11 a12 a13) (fun _ _ => True) k 0 a8 (by omega) trivial
    (fun n s _ => pk_le k k (fun _ => nm_e (H s)) (fun z => absurd z (by omega)))
    (fun n j s hj _ hw => pk_le k j (fun z => absurd z (by omega)) (fun _ => ⟨pk_in (i - k + j) 10 (by omega) (qz_sm h1), pk_in i 10 (by omega), pk_in j 6 (by omega), qz_997, pk_in (i - k + j) 10 (by omega) (qz_sm h1), nm_e (nm_r (nI_1 j) (hw _ trivial))⟩))
theorem qz_s96 {post : St2 → Prop} {a1 a2 a3 a4 a5 a6 a7 a8 a9 a10 a11 a12 a13 : Nat → Int32} {k : Nat} (h1 : 1 ≤ k) (hk : k ≤ 4) (H : ∀ b6 b8, post (nI k, a1, a2, a3, a4, a5, b6, a7, b8, a9, a10, a11, a12, a13)) : ∃ n, wX_squarePower_96 post (nI k) n (nI (2 * k - 2)) a1 a2 a3 a4 a5 a6 a7 a8 a9 a10 a11 a12 a13 := by
  have t := pk_loopD (fun n c s => wX_squarePower_96 post (nI k) n (nI (k - 1 + c)) a1 a2 a3 a4 a5 a6 a7 s a9 a10 a11 a12 a13) (fun c _ => c ≤ 3)
    (fun n s _ => pk_lt (k - 1) k (fun _ => qz_s172 hk (fun b6 => H b6 s)) (fun z => absurd z (by omega)))
    (fun n c s hc hw => pk_lt (k - 1 + (c + 1)) k (fun z => absurd z (by omega)) (fun _ => qz_s106 hk (by omega) (by omega) (fun b8 => by
      have t2 := hw b8 (by omega)
      rw [show k - 1 + (c + 1) = (k - 1 + c) + 1 by omega, pk_m1]
      exact t2)))
    (k - 1) a8 (by omega)
  rw [show k - 1 + (k - 1) = 2 * k - 2 by omega] at t
  exact ⟨_, t⟩
theorem qz_s33 {post : St2 → Prop} {J : Int32 → (Nat → Int32) → (Nat → Int32) → (Nat → Int32) → (Nat → Int32) → (Nat → Int32) → (Nat → Int32) → (Nat → Int32) → (Nat → Int32) → (Nat → Int32) → (Nat → Int32) → (Nat → Int32) → (Nat → Int32) → (Nat → Int32) → Prop} {a1 a2 a3 a4 a5 a6 a7 a8 a9 a10 a11 a12 a13 : Nat → Int32} {k i : Nat} (hk : k ≤ 4) (h1 : i < k) (H : ∀ b8, J (nI (i + 1)) a1 a2 a3 a4 a5 a6 a7 b8 a9 a10 a11 a12 a13) : ∃ n, wX_squarePower_33 post J (nI i) (nI k) n 0 a1 a2 a3 a4 a5 a6 a7 a8 a9 a10 a11 a12 a13 :=
  pk_loop (fun n j s => wX_squarePower_33 post J (nI i) (nI k) n (nI j) a1 a2 a3 a4 a5 a6 a7 s a9 a10 a11 a12 a13) (fun _ _ => True) k 0 a8 (by omega) trivial
    (fun n s _ => pk_le k k (fun _ => nm_r (nI_1 i) (H s)) (fun z => absurd z (by omega)))
    (fun n j s hj _ hw => pk_le k j (fun z => absurd z (by omega)) (fun _ => ⟨pk_in (i + j) 10 (by omega) (nI_add i j), pk_in i 5 (by omega), pk_in j 5 (by omega), qz_997, pk_in (i + j) 10 (by omega) (nI_add i j), nm_e (nm_r (nI_1 j) (hw _ trivial))⟩))
theorem qz_s23 {post : St2 → Prop} {a1 a2 a3 a4 a5 a6 a7 a8 a9 a10 a11 a12 a13 : Nat → Int32} {k : Nat} (h1 : 1 ≤ k) (hk : k ≤ 4) (H : ∀ b6 b8, post (nI k, a1, a2, a3, a4, a5, b6, a7, b8, a9, a10, a11, a12, a13)) : ∃ n, wX_squarePower_23 post (nI k) n 0 a1 a2 a3 a4 a5 a6 a7 a8 a9 a10 a11 a12 a13 :=
  pk_loop (fun n i s => wX_squarePower_23 post (nI k) n (nI i) a1 a2 a3 a4 a5 a6 a7 s a9 a10 a11 a12 a13) (fun _ _ => True) k 0 a8 (by omega) trivial
    (fun n s _ => pk_le k k (fun _ => nm_r (qz_2 h1) (qz_s96 h1 hk H)) (fun z => absurd z (by omega)))
    (fun n i s hi _ hw => pk_le k i (fun z => absurd z (by omega)) (fun _ => qz_s33 hk hi (fun b8 => hw b8 trivial)))
theorem qz_sq {post : St2 → Prop} {a1 a2 a3 a4 a5 a6 a7 a8 a9 a10 a11 a12 a13 : Nat → Int32} {k : Nat} (h1 : 1 ≤ k) (hk : k ≤ 4) (H : ∀ b6 b8, post (nI k, a1, a2, a3, a4, a5, b6, a7, b8, a9, a10, a11, a12, a13)) : wpX_squarePower post (nI k, a1, a2, a3, a4, a5, a6, a7, a8, a9, a10, a11, a12, a13) := by
  unfold wpX_squarePower
  exact pk_loop (fun n i s => wX_squarePower_2 post (nI k) n (nI i) a1 a2 a3 a4 a5 a6 a7 s a9 a10 a11 a12 a13) (fun _ _ => True) 10 0 a8 (by omega) trivial
    (fun n s _ => pk_le 10 10 (fun _ => qz_s23 h1 hk H) (fun z => absurd z (by omega)))
    (fun n i s hi _ hw => pk_le 10 i (fun z => absurd z (by omega)) (fun _ => ⟨pk_in i 10 hi, nm_e (nm_r (nI_1 i) (hw _ trivial))⟩))
theorem qz_t39 {post : St2 → Prop} {J : Int32 → (Nat → Int32) → (Nat → Int32) → (Nat → Int32) → (Nat → Int32) → (Nat → Int32) → (Nat → Int32) → (Nat → Int32) → (Nat → Int32) → (Nat → Int32) → (Nat → Int32) → (Nat → Int32) → (Nat → Int32) → (Nat → Int32) → Prop} {x z sz : Int32} {a1 a2 a3 a4 a5 a6 a7 a8 a9 a10 a11 a12 a13 : Nat → Int32} {c : Nat} (hc : c < 5) (H : ∀ b6, J (nI c - 1) a1 a2 a3 a4 a5 b6 a7 a8 a9 a10 a11 a12 a13) : wX_timesX_39 post J x (nI c) z sz a1 a2 a3 a4 a5 a6 a7 a8 a9 a10 a11 a12 a13 := by
  unfold wX_timesX_39
  exact ⟨pk_in c 6 (by omega), qz_997, pk_in c 5 hc, nm_e (nm_r (qz_neg _) (H _))⟩
theorem qz_tx {post : St2 → Prop} {a1 a2 a3 a4 a5 a6 a7 a8 a9 a10 a11 a12 a13 : Nat → Int32} {k : Nat} (h1 : 1 ≤ k) (hk : k ≤ 4) (H : ∀ b6, post (nI k, a1, a2, a3, a4, a5, b6, a7, a8, a9, a10, a11, a12, a13)) : wpX_timesX post (nI k, a1, a2, a3, a4, a5, a6, a7, a8, a9, a10, a11, a12, a13) := by
  unfold wpX_timesX
  refine ⟨pk_in (k - 1) 5 (by omega) (qz_p1 h1), nm_e (nm_e ⟨k + 1, ?_⟩)⟩
  exact pk_loopD (fun n c s => wX_timesX_19 post (a6 (nI k - 1).toNatClampNeg) (nI k) n (nI c - 1) a1 a2 a3 a4 a5 s a7 a8 a9 a10 a11 a12 a13) (fun c _ => c ≤ 4)
    (fun n s _ => br_t qz_m1 (H s))
    (fun n c s hc hw => by
      rw [nI_pred]
      exact pk_lt c 0 (fun z => absurd z (by omega)) (fun _ => pk_le c 0
        (fun _ => qz_t39 (by omega) (fun b6 => hw b6 (by omega)))
        (fun z => ⟨pk_in (c - 1) 5 (by omega) (qz_p1 z), qz_t39 (by omega) (fun b6 => hw b6 (by omega))⟩)))
    k a6 hk
theorem qz_r38 {post : St2 → Prop} {x : Int32} {a1 a2 a3 a4 a5 a6 a7 a8 a9 a10 a11 a12 a13 : Nat → Int32} {k : Nat} (hk : k ≤ 4) (H : ∀ b6 b8, post (nI k, a1, a2, a3, a4, a5, b6, a7, b8, a9, a10, a11, a12, a13)) : ∃ n, wX_raise_38 post x n 30 (nI k) a1 a2 a3 a4 a5 a6 a7 a8 a9 a10 a11 a12 a13 :=
  ⟨32, pk_loopD (fun n c (s : (Nat → Int32) × (Nat → Int32)) => wX_raise_38 post x n (nI c - 1) (nI k) a1 a2 a3 a4 a5 s.1 a7 s.2 a9 a10 a11 a12 a13) (fun c _ => c ≤ 31)
    (fun n s _ => br_t qz_m1 (H s.1 s.2))
    (fun n c s hc hw => by
      rw [nI_pred]
      exact pk_lt c 0 (fun z => absurd z (by omega)) (fun _ => pk_le k 0 (fun _ => H s.1 s.2)
        (fun z => qz_sq z hk (fun b6 b8 => br_c
          (fun _ => qz_tx z hk (fun b6' => nm_r (qz_neg _) (hw (b6', b8) (by omega))))
          (fun _ => nm_r (qz_neg _) (hw (b6, b8) (by omega)))))))
    31 (a6, a8) (by omega)⟩
theorem qz_ra {post : St2 → Prop} {x : Int32} {a1 a2 a3 a4 a5 a6 a7 a8 a9 a10 a11 a12 a13 : Nat → Int32} {k : Nat} (hk : k ≤ 4) (H : ∀ b6 b8, post (nI k, a1, a2, a3, a4, a5, b6, a7, b8, a9, a10, a11, a12, a13)) : wpX_raise post (nI k, a1, a2, a3, a4, a5, a6, a7, a8, a9, a10, a11, a12, a13) x := by
  unfold wpX_raise
  exact pk_loop (fun n i s => wX_raise_2 post x (nI k) n (nI i) a1 a2 a3 a4 a5 s a7 a8 a9 a10 a11 a12 a13) (fun _ _ => True) 5 0 a6 (by omega) trivial
    (fun n s _ => pk_le 5 5 (fun _ => qz_r38 hk H) (fun z => absurd z (by omega)))
    (fun n i s hi _ hw => pk_le 5 i (fun z => absurd z (by omega)) (fun _ => pk_eq i 0
      (fun _ => pk_le k 0 (fun _ => ⟨pk_in i 5 hi, nm_e (nm_r (nI_1 i) (hw _ trivial))⟩) (fun _ => ⟨pk_in i 5 hi, nm_e (nm_r (nI_1 i) (hw _ trivial))⟩))
      (fun _ => ⟨pk_in i 5 hi, nm_e (nm_r (nI_1 i) (hw _ trivial))⟩)))
theorem qz_a44 {post : Int32 → St2 → Prop} {a1 a2 a3 a4 a5 a6 a7 a8 a9 a10 a11 a12 a13 : Nat → Int32} {i k : Nat} (hi : i < 3) (hk : k ≤ 4) (h3 : ∀ j, a3 j = 0) (H : post 0 (nI k, a1, a2, a3, a4, a5, a6, a7, a8, a9, a10, a11, a12, a13)) : ∃ n, wX_termAt_44 post (nI i) (nI k) a1 a2 a3 a4 a5 a6 a7 a8 a9 a10 a11 a12 a13 n 0 0 :=
  pk_loop (fun n j s => wX_termAt_44 post (nI i) (nI k) a1 a2 a3 a4 a5 a6 a7 a8 a9 a10 a11 a12 a13 n s (nI j)) (fun _ s => s = 0) k 0 0 (by omega) rfl
    (fun n s hs => pk_le k k (fun _ => by rw [hs]; exact H) (fun z => absurd z (by omega)))
    (fun n j s hj hs hw => pk_le k j (fun z => absurd z (by omega)) (fun _ => ⟨pk_in j 5 (by omega), pk_in (4 * i + j) 12 (by omega) (qz_4 i j), qz_997, nm_r (by rw [hs, h3]; exact qz_z _) (nm_r (nI_1 j) (hw 0 rfl))⟩))
theorem qz_at {post : Int32 → St2 → Prop} {sz : Int32} {a1 a2 a3 a4 a5 a6 a7 a8 a9 a10 a11 a12 a13 : Nat → Int32} {i k m : Nat} (hi : i < 3) (hk : k ≤ 4) (hm : m < 2 ^ 31) (h1 : a1 i = nI k) (h3 : ∀ j, a3 j = 0) (H : ∀ z b4 b6 b8, post 0 (z, a1, a2, a3, b4, a5, b6, a7, b8, a9, a10, a11, a12, a13)) : wpX_termAt post (sz, a1, a2, a3, a4, a5, a6, a7, a8, a9, a10, a11, a12, a13) (nI i) (nI m) := by
  unfold wpX_termAt
  refine ⟨pk_in i 3 hi, nm_r (e' := nI k) (by rw [nI_clamp (by omega)]; exact h1) (pk_le k m (fun _ => ?_) (fun z => ⟨pk_in (4 * i + m) 12 (by omega) (qz_4 i m), ?_⟩))⟩
  · exact qz_tr hi hk h1 (fun b4 => qz_ra hk (fun b6 b8 => qz_a44 hi hk h3 (H _ b4 b6 b8)))
  · rw [h3]
    exact H _ _ _ _
end
section
theorem qz_tr_2 {post : St2 → Prop} {sz : Int32} {a1 a2 a3 a4 a5 a6 a7 a8 a9 a10 a11 a12 a13 : Nat → Int32} {i k : Nat} (hi : i < 3) (hk : k ≤ 4) (ha : a1 i = nI k) (H : ∀ b4, post (sz, a1, a2, a3, b4, a5, a6, a7, a8, a9, a10, a11, a12, a13)) : wpX_takeRule_2 post (sz, a1, a2, a3, a4, a5, a6, a7, a8, a9, a10, a11, a12, a13) (nI i) := by
  unfold wpX_takeRule_2
  refine ⟨pk_in i 3 hi, nm_r (e' := nI k) (by rw [nI_clamp (by omega)]; exact ha) ?_⟩
  exact pk_loop (fun n j s => wX_takeRule_2_9 post (nI i) (nI k) sz n (nI j) a1 a2 a3 s a5 a6 a7 a8 a9 a10 a11 a12 a13) (fun _ _ => True) 6 0 a4 (by omega) trivial
    (fun n s _ => pk_le 6 6 (fun _ => H s) (fun z => absurd z (by omega)))
    (fun n j s hj _ hw => pk_le 6 j (fun z => absurd z (by omega)) (fun _ => pk_le k j
      (fun _ => ⟨pk_in j 6 hj, nm_e (nm_r (nI_1 j) (hw _ trivial))⟩)
      (fun z => ⟨pk_in (4 * i + k - 1 - j) 12 (by omega) (qz_4m z), pk_in j 6 hj, nm_e (nm_r (nI_1 j) (hw _ trivial))⟩)))
theorem qz_s172_2 {post : St2 → Prop} {a1 a2 a3 a4 a5 a6 a7 a8 a9 a10 a11 a12 a13 : Nat → Int32} {k : Nat} (hk : k ≤ 4) (H : ∀ b6, post (nI k, a1, a2, a3, a4, a5, b6, a7, a8, a9, a10, a11, a12, a13)) : ∃ n, wX_squarePower_2_172 post (nI k) n 0 a1 a2 a3 a4 a5 a6 a7 a8 a9 a10 a11 a12 a13 :=
  pk_loop (fun n i s => wX_squarePower_2_172 post (nI k) n (nI i) a1 a2 a3 a4 a5 s a7 a8 a9 a10 a11 a12 a13) (fun _ _ => True) k 0 a6 (by omega) trivial
    (fun n s _ => pk_le k k (fun _ => H s) (fun z => absurd z (by omega)))
    (fun n i s hi _ hw => pk_le k i (fun z => absurd z (by omega)) (fun _ => ⟨pk_in i 10 (by omega), pk_in i 5 (by omega), nm_e (nm_r (nI_1 i) (hw _ trivial))⟩))
theorem qz_s106_2 {post : St2 → Prop} {J : Int32 → (Nat → Int32) → (Nat → Int32) → (Nat → Int32) → (Nat → Int32) → (Nat → Int32) → (Nat → Int32) → (Nat → Int32) → (Nat → Int32) → (Nat → Int32) → (Nat → Int32) → (Nat → Int32) → (Nat → Int32) → (Nat → Int32) → Prop} {a1 a2 a3 a4 a5 a6 a7 a8 a9 a10 a11 a12 a13 : Nat → Int32} {k i : Nat} (hk : k ≤ 4) (h1 : k ≤ i) (h2 : i ≤ 6) (H : ∀ b8, J (nI i + (-1)) a1 a2 a3 a4 a5 a6 a7 b8 a9 a10 a11 a12 a13) : ∃ n, wX_squarePower_2_106 post J (nI i) (nI k) n 0 a1 a2 a3 a4 a5 a6 a7 a8 a9 a10 a11 a12 a13 :=
  pk_loop (fun n j s => wX_squarePower_2_106 post J (nI i) (nI k) n (nI j) a1 a2 a3 a4 a5 a6 a7 s a9 a10 a11 a12 a13) (fun _ _ => True) k 0 a8 (by omega) trivial
    (fun n s _ => pk_le k k (fun _ => nm_e (H s)) (fun z => absurd z (by omega)))
    (fun n j s hj _ hw => pk_le k j (fun z => absurd z (by omega)) (fun _ => ⟨pk_in (i - k + j) 10 (by omega) (qz_sm h1), pk_in i 10 (by omega), pk_in j 6 (by omega), qz_997, pk_in (i - k + j) 10 (by omega) (qz_sm h1), nm_e (nm_r (nI_1 j) (hw _ trivial))⟩))
theorem qz_s96_2 {post : St2 → Prop} {a1 a2 a3 a4 a5 a6 a7 a8 a9 a10 a11 a12 a13 : Nat → Int32} {k : Nat} (h1 : 1 ≤ k) (hk : k ≤ 4) (H : ∀ b6 b8, post (nI k, a1, a2, a3, a4, a5, b6, a7, b8, a9, a10, a11, a12, a13)) : ∃ n, wX_squarePower_2_96 post (nI k) n (nI (2 * k - 2)) a1 a2 a3 a4 a5 a6 a7 a8 a9 a10 a11 a12 a13 := by
  have t := pk_loopD (fun n c s => wX_squarePower_2_96 post (nI k) n (nI (k - 1 + c)) a1 a2 a3 a4 a5 a6 a7 s a9 a10 a11 a12 a13) (fun c _ => c ≤ 3)
    (fun n s _ => pk_lt (k - 1) k (fun _ => qz_s172_2 hk (fun b6 => H b6 s)) (fun z => absurd z (by omega)))
    (fun n c s hc hw => pk_lt (k - 1 + (c + 1)) k (fun z => absurd z (by omega)) (fun _ => qz_s106_2 hk (by omega) (by omega) (fun b8 => by
      have t2 := hw b8 (by omega)
      rw [show k - 1 + (c + 1) = (k - 1 + c) + 1 by omega, pk_m1]
      exact t2)))
    (k - 1) a8 (by omega)
  rw [show k - 1 + (k - 1) = 2 * k - 2 by omega] at t
  exact ⟨_, t⟩
theorem qz_s33_2 {post : St2 → Prop} {J : Int32 → (Nat → Int32) → (Nat → Int32) → (Nat → Int32) → (Nat → Int32) → (Nat → Int32) → (Nat → Int32) → (Nat → Int32) → (Nat → Int32) → (Nat → Int32) → (Nat → Int32) → (Nat → Int32) → (Nat → Int32) → (Nat → Int32) → Prop} {a1 a2 a3 a4 a5 a6 a7 a8 a9 a10 a11 a12 a13 : Nat → Int32} {k i : Nat} (hk : k ≤ 4) (h1 : i < k) (H : ∀ b8, J (nI (i + 1)) a1 a2 a3 a4 a5 a6 a7 b8 a9 a10 a11 a12 a13) : ∃ n, wX_squarePower_2_33 post J (nI i) (nI k) n 0 a1 a2 a3 a4 a5 a6 a7 a8 a9 a10 a11 a12 a13 :=
  pk_loop (fun n j s => wX_squarePower_2_33 post J (nI i) (nI k) n (nI j) a1 a2 a3 a4 a5 a6 a7 s a9 a10 a11 a12 a13) (fun _ _ => True) k 0 a8 (by omega) trivial
    (fun n s _ => pk_le k k (fun _ => nm_r (nI_1 i) (H s)) (fun z => absurd z (by omega)))
    (fun n j s hj _ hw => pk_le k j (fun z => absurd z (by omega)) (fun _ => ⟨pk_in (i + j) 10 (by omega) (nI_add i j), pk_in i 5 (by omega), pk_in j 5 (by omega), qz_997, pk_in (i + j) 10 (by omega) (nI_add i j), nm_e (nm_r (nI_1 j) (hw _ trivial))⟩))
theorem qz_s23_2 {post : St2 → Prop} {a1 a2 a3 a4 a5 a6 a7 a8 a9 a10 a11 a12 a13 : Nat → Int32} {k : Nat} (h1 : 1 ≤ k) (hk : k ≤ 4) (H : ∀ b6 b8, post (nI k, a1, a2, a3, a4, a5, b6, a7, b8, a9, a10, a11, a12, a13)) : ∃ n, wX_squarePower_2_23 post (nI k) n 0 a1 a2 a3 a4 a5 a6 a7 a8 a9 a10 a11 a12 a13 :=
  pk_loop (fun n i s => wX_squarePower_2_23 post (nI k) n (nI i) a1 a2 a3 a4 a5 a6 a7 s a9 a10 a11 a12 a13) (fun _ _ => True) k 0 a8 (by omega) trivial
    (fun n s _ => pk_le k k (fun _ => nm_r (qz_2 h1) (qz_s96_2 h1 hk H)) (fun z => absurd z (by omega)))
    (fun n i s hi _ hw => pk_le k i (fun z => absurd z (by omega)) (fun _ => qz_s33_2 hk hi (fun b8 => hw b8 trivial)))
theorem qz_sq_2 {post : St2 → Prop} {a1 a2 a3 a4 a5 a6 a7 a8 a9 a10 a11 a12 a13 : Nat → Int32} {k : Nat} (h1 : 1 ≤ k) (hk : k ≤ 4) (H : ∀ b6 b8, post (nI k, a1, a2, a3, a4, a5, b6, a7, b8, a9, a10, a11, a12, a13)) : wpX_squarePower_2 post (nI k, a1, a2, a3, a4, a5, a6, a7, a8, a9, a10, a11, a12, a13) := by
  unfold wpX_squarePower_2
  exact pk_loop (fun n i s => wX_squarePower_2_2 post (nI k) n (nI i) a1 a2 a3 a4 a5 a6 a7 s a9 a10 a11 a12 a13) (fun _ _ => True) 10 0 a8 (by omega) trivial
    (fun n s _ => pk_le 10 10 (fun _ => qz_s23_2 h1 hk H) (fun z => absurd z (by omega)))
    (fun n i s hi _ hw => pk_le 10 i (fun z => absurd z (by omega)) (fun _ => ⟨pk_in i 10 hi, nm_e (nm_r (nI_1 i) (hw _ trivial))⟩))
theorem qz_t39_2 {post : St2 → Prop} {J : Int32 → (Nat → Int32) → (Nat → Int32) → (Nat → Int32) → (Nat → Int32) → (Nat → Int32) → (Nat → Int32) → (Nat → Int32) → (Nat → Int32) → (Nat → Int32) → (Nat → Int32) → (Nat → Int32) → (Nat → Int32) → (Nat → Int32) → Prop} {x z sz : Int32} {a1 a2 a3 a4 a5 a6 a7 a8 a9 a10 a11 a12 a13 : Nat → Int32} {c : Nat} (hc : c < 5) (H : ∀ b6, J (nI c - 1) a1 a2 a3 a4 a5 b6 a7 a8 a9 a10 a11 a12 a13) : wX_timesX_2_39 post J x (nI c) z sz a1 a2 a3 a4 a5 a6 a7 a8 a9 a10 a11 a12 a13 := by
  unfold wX_timesX_2_39
  exact ⟨pk_in c 6 (by omega), qz_997, pk_in c 5 hc, nm_e (nm_r (qz_neg _) (H _))⟩
theorem qz_tx_2 {post : St2 → Prop} {a1 a2 a3 a4 a5 a6 a7 a8 a9 a10 a11 a12 a13 : Nat → Int32} {k : Nat} (h1 : 1 ≤ k) (hk : k ≤ 4) (H : ∀ b6, post (nI k, a1, a2, a3, a4, a5, b6, a7, a8, a9, a10, a11, a12, a13)) : wpX_timesX_2 post (nI k, a1, a2, a3, a4, a5, a6, a7, a8, a9, a10, a11, a12, a13) := by
  unfold wpX_timesX_2
  refine ⟨pk_in (k - 1) 5 (by omega) (qz_p1 h1), nm_e (nm_e ⟨k + 1, ?_⟩)⟩
  exact pk_loopD (fun n c s => wX_timesX_2_19 post (a6 (nI k - 1).toNatClampNeg) (nI k) n (nI c - 1) a1 a2 a3 a4 a5 s a7 a8 a9 a10 a11 a12 a13) (fun c _ => c ≤ 4)
    (fun n s _ => br_t qz_m1 (H s))
    (fun n c s hc hw => by
      rw [nI_pred]
      exact pk_lt c 0 (fun z => absurd z (by omega)) (fun _ => pk_le c 0
        (fun _ => qz_t39_2 (by omega) (fun b6 => hw b6 (by omega)))
        (fun z => ⟨pk_in (c - 1) 5 (by omega) (qz_p1 z), qz_t39_2 (by omega) (fun b6 => hw b6 (by omega))⟩)))
    k a6 hk
theorem qz_r38_2 {post : St2 → Prop} {x : Int32} {a1 a2 a3 a4 a5 a6 a7 a8 a9 a10 a11 a12 a13 : Nat → Int32} {k : Nat} (hk : k ≤ 4) (H : ∀ b6 b8, post (nI k, a1, a2, a3, a4, a5, b6, a7, b8, a9, a10, a11, a12, a13)) : ∃ n, wX_raise_2_38 post x n 30 (nI k) a1 a2 a3 a4 a5 a6 a7 a8 a9 a10 a11 a12 a13 :=
  ⟨32, pk_loopD (fun n c (s : (Nat → Int32) × (Nat → Int32)) => wX_raise_2_38 post x n (nI c - 1) (nI k) a1 a2 a3 a4 a5 s.1 a7 s.2 a9 a10 a11 a12 a13) (fun c _ => c ≤ 31)
    (fun n s _ => br_t qz_m1 (H s.1 s.2))
    (fun n c s hc hw => by
      rw [nI_pred]
      exact pk_lt c 0 (fun z => absurd z (by omega)) (fun _ => pk_le k 0 (fun _ => H s.1 s.2)
        (fun z => qz_sq_2 z hk (fun b6 b8 => br_c
          (fun _ => qz_tx_2 z hk (fun b6' => nm_r (qz_neg _) (hw (b6', b8) (by omega))))
          (fun _ => nm_r (qz_neg _) (hw (b6, b8) (by omega)))))))
    31 (a6, a8) (by omega)⟩
theorem qz_ra_2 {post : St2 → Prop} {x : Int32} {a1 a2 a3 a4 a5 a6 a7 a8 a9 a10 a11 a12 a13 : Nat → Int32} {k : Nat} (hk : k ≤ 4) (H : ∀ b6 b8, post (nI k, a1, a2, a3, a4, a5, b6, a7, b8, a9, a10, a11, a12, a13)) : wpX_raise_2 post (nI k, a1, a2, a3, a4, a5, a6, a7, a8, a9, a10, a11, a12, a13) x := by
  unfold wpX_raise_2
  exact pk_loop (fun n i s => wX_raise_2_2 post x (nI k) n (nI i) a1 a2 a3 a4 a5 s a7 a8 a9 a10 a11 a12 a13) (fun _ _ => True) 5 0 a6 (by omega) trivial
    (fun n s _ => pk_le 5 5 (fun _ => qz_r38_2 hk H) (fun z => absurd z (by omega)))
    (fun n i s hi _ hw => pk_le 5 i (fun z => absurd z (by omega)) (fun _ => pk_eq i 0
      (fun _ => pk_le k 0 (fun _ => ⟨pk_in i 5 hi, nm_e (nm_r (nI_1 i) (hw _ trivial))⟩) (fun _ => ⟨pk_in i 5 hi, nm_e (nm_r (nI_1 i) (hw _ trivial))⟩))
      (fun _ => ⟨pk_in i 5 hi, nm_e (nm_r (nI_1 i) (hw _ trivial))⟩)))
theorem qz_a44_2 {post : Int32 → St2 → Prop} {a1 a2 a3 a4 a5 a6 a7 a8 a9 a10 a11 a12 a13 : Nat → Int32} {i k : Nat} (hi : i < 3) (hk : k ≤ 4) (h3 : ∀ j, a3 j = 0) (H : post 0 (nI k, a1, a2, a3, a4, a5, a6, a7, a8, a9, a10, a11, a12, a13)) : ∃ n, wX_termAt_2_44 post (nI i) (nI k) a1 a2 a3 a4 a5 a6 a7 a8 a9 a10 a11 a12 a13 n 0 0 :=
  pk_loop (fun n j s => wX_termAt_2_44 post (nI i) (nI k) a1 a2 a3 a4 a5 a6 a7 a8 a9 a10 a11 a12 a13 n s (nI j)) (fun _ s => s = 0) k 0 0 (by omega) rfl
    (fun n s hs => pk_le k k (fun _ => by rw [hs]; exact H) (fun z => absurd z (by omega)))
    (fun n j s hj hs hw => pk_le k j (fun z => absurd z (by omega)) (fun _ => ⟨pk_in j 5 (by omega), pk_in (4 * i + j) 12 (by omega) (qz_4 i j), qz_997, nm_r (by rw [hs, h3]; exact qz_z _) (nm_r (nI_1 j) (hw 0 rfl))⟩))
theorem qz_at_2 {post : Int32 → St2 → Prop} {sz : Int32} {a1 a2 a3 a4 a5 a6 a7 a8 a9 a10 a11 a12 a13 : Nat → Int32} {i k m : Nat} (hi : i < 3) (hk : k ≤ 4) (hm : m < 2 ^ 31) (h1 : a1 i = nI k) (h3 : ∀ j, a3 j = 0) (H : ∀ z b4 b6 b8, post 0 (z, a1, a2, a3, b4, a5, b6, a7, b8, a9, a10, a11, a12, a13)) : wpX_termAt_2 post (sz, a1, a2, a3, a4, a5, a6, a7, a8, a9, a10, a11, a12, a13) (nI i) (nI m) := by
  unfold wpX_termAt_2
  refine ⟨pk_in i 3 hi, nm_r (e' := nI k) (by rw [nI_clamp (by omega)]; exact h1) (pk_le k m (fun _ => ?_) (fun z => ⟨pk_in (4 * i + m) 12 (by omega) (qz_4 i m), ?_⟩))⟩
  · exact qz_tr_2 hi hk h1 (fun b4 => qz_ra_2 hk (fun b6 b8 => qz_a44_2 hi hk h3 (H _ b4 b6 b8)))
  · rw [h3]
    exact H _ _ _ _
end
section
theorem qz_m41 {post : Int32 → St2 → Prop} {sz : Int32} {a1 a2 a3 a4 a5 a6 a7 a8 a9 a10 a11 a12 a13 : Nat → Int32} (h9 : ∀ j, j < 8 → a9 j = 0) (H : post 0 (sz, a1, a2, a3, a4, a5, a6, a7, a8, a9, a10, a11, a12, a13)) : ∃ n, wX_mend_41 post 8 n 0 0 1 1 0 sz a1 a2 a3 a4 a5 a6 a7 a8 a9 a10 a11 a12 a13 :=
  pk_loop (fun n i s => wX_mend_41 post 8 n 0 0 1 s (nI i) sz a1 a2 a3 a4 a5 a6 a7 a8 a9 a10 a11 a12 a13) (fun _ _ => True) 8 0 1 (by omega) trivial
    (fun n s _ => pk_le 8 8 (fun _ => H) (fun z => absurd z (by omega)))
    (fun n i s hi _ hw => pk_le 8 i (fun z => absurd z (by omega)) (fun _ => ⟨pk_in i 40 (by omega), nm_r (e' := 0) (by rw [nI_clamp (by omega)]; exact h9 i hi) ⟨1, pk_lt 0 1 (fun _ => br_t rfl (nm_e (nm_r (nI_1 i) (hw _ trivial)))) (fun z => absurd z (by omega))⟩⟩))
theorem qz_me {post : Int32 → St2 → Prop} {sz : Int32} {a1 a2 a3 a4 a5 a6 a7 a8 a9 a10 a11 a12 a13 : Nat → Int32} (h9 : ∀ j, j < 8 → a9 j = 0) (H : ∀ b10 b11, post 0 (sz, a1, a2, a3, a4, a5, a6, a7, a8, a9, b10, b11, a12, a13)) : wpX_mend post (sz, a1, a2, a3, a4, a5, a6, a7, a8, a9, a10, a11, a12, a13) 8 := by
  unfold wpX_mend
  exact pk_loop (fun n i (s : (Nat → Int32) × (Nat → Int32)) => wX_mend_2 post 8 sz n (nI i) a1 a2 a3 a4 a5 a6 a7 a8 a9 s.1 s.2 a12 a13) (fun _ _ => True) 40 0 (a10, a11) (by omega) trivial
    (fun n s _ => pk_le 40 40 (fun _ => qz_m41 h9 (H s.1 s.2)) (fun z => absurd z (by omega)))
    (fun n i s hi _ hw => pk_le 40 i (fun z => absurd z (by omega)) (fun _ => ⟨pk_in i 40 hi, nm_e ⟨pk_in i 40 hi, nm_e (nm_r (nI_1 i) (hw (_, _) trivial))⟩⟩))
theorem qz_fi {post : Int32 → St2 → Prop} {sz : Int32} {a1 a2 a3 a4 a5 a6 a7 a8 a9 a10 a11 a12 a13 : Nat → Int32} {i k : Nat} (hi : i < 3) (hk : k ≤ 4) (h1 : a1 i = nI k) (h3 : ∀ j, a3 j = 0) (H : ∀ z b4 b6 b8 b9 b10 b11, post 0 (z, a1, a2, a3, b4, a5, b6, a7, b8, b9, b10, b11, a12, a13)) : wpX_findRule post (sz, a1, a2, a3, a4, a5, a6, a7, a8, a9, a10, a11, a12, a13) (nI i) := by
  unfold wpX_findRule
  exact pk_loop (fun n j (s : Int32 × (Nat → Int32) × (Nat → Int32) × (Nat → Int32) × (Nat → Int32)) => wX_findRule_2 post (nI i) n (nI j) s.1 a1 a2 a3 s.2.1 a5 s.2.2.1 a7 s.2.2.2.1 s.2.2.2.2 a10 a11 a12 a13) (fun j s => ∀ t, t < j → s.2.2.2.2 t = 0) 8 0 (sz, a4, a6, a8, a9) (by omega) (fun t ht => absurd ht (by omega))
    (fun n s h9 => pk_le 8 8 (fun _ => qz_me h9 (fun b10 b11 => H _ _ _ _ _ b10 b11)) (fun z => absurd z (by omega)))
    (fun n j s hj h9 hw => pk_le 8 j (fun z => absurd z (by omega)) (fun _ => qz_at_2 hi hk (by omega) h1 h3 (fun z b4 b6 b8 => ⟨pk_in j 40 (by omega), nm_r (e' := upd s.2.2.2.2 j 0) (by rw [nI_clamp (by omega)]) (nm_r (nI_1 j) (hw (z, b4, b6, b8, upd s.2.2.2.2 j 0) (fun t ht => by
      dsimp only
      by_cases e : t = j
      · rw [e, pk_us]
      · rw [pk_un e]
        exact h9 t (by omega))))⟩)))
theorem qz_sh {post : Int32 → St2 → Prop} {sz p : Int32} {a1 a2 a3 a4 a5 a6 a7 a8 a9 a10 a11 a12 a13 : Nat → Int32} {i k : Nat} (hi : i < 3) (hk : k ≤ 4) (h1 : a1 i = nI k) (h3 : ∀ j, a3 j = 0) (H : ∀ u, post (-2) u) : wpX_shortest post (sz, a1, a2, a3, a4, a5, a6, a7, a8, a9, a10, a11, a12, a13) (nI i) p := by
  unfold wpX_shortest
  exact qz_good hi (br_f (by decide) (qz_fi hi hk h1 h3 (fun z b4 b6 b8 b9 b10 b11 => br_c (fun _ => H _) (fun z => br_t (qz_gt z) (H _)))))
theorem qz_te {post : Int32 → St2 → Prop} {sz : Int32} {a1 a2 a3 a4 a5 a6 a7 a8 a9 a10 a11 a12 a13 : Nat → Int32} {i k m : Nat} (hi : i < 3) (hk : k ≤ 4) (hm : m < 2 ^ 31) (h1 : a1 i = nI k) (h3 : ∀ j, a3 j = 0) (H : ∀ z b4 b6 b8, post 0 (z, a1, a2, a3, b4, a5, b6, a7, b8, a9, a10, a11, a12, a13)) : wpX_term post (sz, a1, a2, a3, a4, a5, a6, a7, a8, a9, a10, a11, a12, a13) (nI i) (nI m) := by
  unfold wpX_term
  exact qz_good hi (br_f (by decide) (br_t (nI_pos' hm) (qz_at hi hk hm h1 h3 H)))
theorem qz_or {post : Int32 → St2 → Prop} {sz : Int32} {a1 a2 a3 a4 a5 a6 a7 a8 a9 a10 a11 a12 a13 : Nat → Int32} {i k : Nat} (hi : i < 3) (hk : k ≤ 4) (h1 : a1 i = 0) (h2 : ∀ j, a2 j = 0) (h3 : ∀ j, a3 j = 0) (H : ∀ b1 b2 b3, b1 i = nI k → (∀ j, b2 j = 0) → (∀ j, b3 j = 0) → post 0 (sz, b1, b2, b3, a4, a5, a6, a7, a8, a9, a10, a11, a12, a13)) : wpX_order post (sz, a1, a2, a3, a4, a5, a6, a7, a8, a9, a10, a11, a12, a13) (nI i) (nI k) := by
  have hz : ∀ (s : Nat → Int32) (c : Nat), (∀ j, s j = 0) → ∀ j, upd s c 0 j = 0 := by
    intro s c hs j
    by_cases e : j = c
    · rw [e, pk_us]
    · rw [pk_un e]
      exact hs j
  unfold wpX_order
  refine qz_good hi (br_f (by decide) (pk_lt k 0 (fun z => absurd z (by omega)) (fun _ => pk_le k 4 (fun _ => ⟨pk_in i 3 hi, nm_r (e' := 0) (by rw [nI_clamp (by omega)]; exact h1) ⟨pk_in i 3 hi, nm_r (e' := upd a1 i (nI k)) (by rw [nI_clamp (by omega)]) ?_⟩⟩) (fun z => absurd z (by omega)))))
  exact pk_loop (fun n c (s : (Nat → Int32) × (Nat → Int32)) => wX_order_38 post (nI i) 0 sz n (nI c) (upd a1 i (nI k)) s.1 s.2 a4 a5 a6 a7 a8 a9 a10 a11 a12 a13) (fun _ s => (∀ j, s.1 j = 0) ∧ (∀ j, s.2 j = 0)) 4 0 (a2, a3) (by omega) ⟨h2, h3⟩
    (fun n s hs => pk_le 4 4 (fun _ => H _ _ _ pk_us hs.1 hs.2) (fun z => absurd z (by omega)))
    (fun n c s hc hs hw => pk_le 4 c (fun z => absurd z (by omega)) (fun _ => ⟨pk_in (4 * i + c) 12 (by omega) (qz_4 i c), nm_e ⟨pk_in (4 * i + c) 12 (by omega) (qz_4 i c), nm_e (nm_r (nI_1 c) (hw (_, _) ⟨hz _ _ hs.1, hz _ _ hs.2⟩))⟩⟩))
end
section
theorem qz_oF {post : Int32 → Prop} {sz : Int32} {a1 a2 a3 a4 a5 a6 a7 a8 a9 a10 a11 a12 a13 : Nat → Int32} {i : Nat} (hi : i < 3) (H : post (a1 i)) : wpX_orderOf post (sz, a1, a2, a3, a4, a5, a6, a7, a8, a9, a10, a11, a12, a13) (nI i) := by
  unfold wpX_orderOf
  refine qz_good hi (br_f (by decide) ⟨pk_in i 3 hi, ?_⟩)
  rw [nI_clamp (by omega)]
  exact H
/-- rule, out of the range of places -/
theorem qz_ru0 {post : Int32 → St2 → Prop} {sz p v : Int32} {a1 a2 a3 a4 a5 a6 a7 a8 a9 a10 a11 a12 a13 : Nat → Int32} {i k : Nat} (hi : i < 3) (h1 : a1 i = nI k) (hp : p < 1 ∨ nI k < p) (H : post (-2) (sz, a1, a2, a3, a4, a5, a6, a7, a8, a9, a10, a11, a12, a13)) : wpX_rule post (sz, a1, a2, a3, a4, a5, a6, a7, a8, a9, a10, a11, a12, a13) (nI i) p v := by
  unfold wpX_rule
  refine qz_good hi (br_f (by decide) (br_c (fun _ => H) (fun z => ⟨pk_in i 3 hi, br_f ?_ H⟩)))
  rw [nI_clamp (by omega), h1]
  have h := hp.resolve_left z
  rw [Int32.lt_iff_toInt_lt] at h
  rw [Int32.le_iff_toInt_le]
  omega
/-- rule, at a place of the rule -/
theorem qz_ru1 {post : Int32 → St2 → Prop} {sz v : Int32} {a1 a2 a3 a4 a5 a6 a7 a8 a9 a10 a11 a12 a13 : Nat → Int32} {i k m : Nat} (hi : i < 3) (hk : k ≤ 4) (h1 : a1 i = nI k) (hm : 1 ≤ m) (hm2 : m ≤ k) (H : post (a2 (4 * i + m - 1)) (sz, a1, (upd a2 (4 * i + m - 1) (qz_mod v)), a3, a4, a5, a6, a7, a8, a9, a10, a11, a12, a13)) : wpX_rule post (sz, a1, a2, a3, a4, a5, a6, a7, a8, a9, a10, a11, a12, a13) (nI i) (nI m) v := by
  have e : ((4 : Int32) * nI i + nI m - 1).toNatClampNeg = 4 * i + m - 1 := pk_cl _ (qz_4p hm)
  have e1 : vp_in ((4 : Int32) * nI i + nI m - 1) 12 := pk_in (4 * i + m - 1) 12 (by omega) (qz_4p hm)
  unfold wpX_rule
  refine qz_good hi (br_f (by decide) (pk_lt m 1 (fun z => absurd z (by omega)) (fun _ => ⟨pk_in i 3 hi, br_t ?_ ⟨e1, nm_r (by rw [e]) (qz_modulo ⟨e1, nm_r (by rw [e]) H⟩)⟩⟩)))
  rw [nI_clamp (by omega), h1]
  exact nI_le hm2 (by omega)
/-- the law's last two checks, s good -/
theorem qz_246 {post : Int32 → St0 → Prop} {mc ms kc ks : Nat} {sz p : Int32} {a1 a2 a3 a4 a5 a6 a7 a8 a9 a10 a11 a12 a13 : Nat → Int32} {i k : Nat} (hi : i < 3) (hk : k ≤ 4) (h1 : a1 i = nI k) (h3 : ∀ j, a3 j = 0) (z : Int32) (H : post 1 ()) : wL_lawOf_246 post mc ms (nI i) p 1 z z kc ks sz a1 a2 a3 a4 a5 a6 a7 a8 a9 a10 a11 a12 a13 := by
  unfold wL_lawOf_246
  exact br_t rfl (qz_sh hi hk h1 h3 (fun u => br_f (by decide) (br_t rfl H)))
theorem qz_209 {post : Int32 → St0 → Prop} {mc ms kc ks : Nat} {sz p q : Int32} {a1 a2 a3 a4 a5 a6 a7 a8 a9 a10 a11 a12 a13 : Nat → Int32} {i k : Nat} (hi : i < 3) (hk : k ≤ 4) (h1 : a1 i = nI k) (h3 : ∀ j, a3 j = 0) (z : Int32) (H : post 1 ()) : wL_lawOf_209 post mc ms (nI i) p q 1 z z kc ks sz a1 a2 a3 a4 a5 a6 a7 a8 a9 a10 a11 a12 a13 := by
  unfold wL_lawOf_209
  refine br_t rfl ?_
  by_cases hq : q < 0
  · have hq' : ¬ 0 ≤ q := by
      rw [Int32.lt_iff_toInt_lt] at hq
      rw [Int32.le_iff_toInt_le]
      omega
    unfold wpX_term
    exact qz_good hi (br_f (by decide) (br_f hq' (br_f (by decide) (br_f hq' (qz_246 hi hk h1 h3 _ H)))))
  · obtain ⟨m, hm, rfl⟩ := nI_of hq
    exact qz_te hi hk hm h1 h3 (fun z b4 b6 b8 => br_f (by decide) (br_t (nI_pos' hm) (qz_246 hi hk h1 h3 _ H)))
/-- the second call of rule, out of the range -/
theorem qz_165a {post : Int32 → St0 → Prop} {mc ms kc ks : Nat} {sz p v q : Int32} {a1 a2 a3 a4 a5 a6 a7 a8 a9 a10 a11 a12 a13 : Nat → Int32} {i k : Nat} (hi : i < 3) (hk : k ≤ 4) (h1 : a1 i = nI k) (h3 : ∀ j, a3 j = 0) (hp : p < 1 ∨ nI k < p) (z : Int32) (H : post 1 ()) : wL_lawOf_165 post mc ms (nI i) p v q 1 0 z z kc ks sz a1 a2 a3 a4 a5 a6 a7 a8 a9 a10 a11 a12 a13 := by
  unfold wL_lawOf_165
  exact br_t rfl (qz_ru0 hi h1 hp (qz_norm (br_f (by decide) (br_t rfl (qz_209 hi hk h1 h3 _ H)))))
/-- the second call of rule, at a place -/
theorem qz_165b {post : Int32 → St0 → Prop} {mc ms kc ks : Nat} {sz v q : Int32} {a1 a2 a3 a4 a5 a6 a7 a8 a9 a10 a11 a12 a13 : Nat → Int32} {i k m : Nat} (hi : i < 3) (hk : k ≤ 4) (h1 : a1 i = nI k) (h3 : ∀ j, a3 j = 0) (hm : 1 ≤ m) (hm2 : m ≤ k) (h2 : a2 (4 * i + m - 1) = qz_mod v) (z : Int32) (H : post 1 ()) : wL_lawOf_165 post mc ms (nI i) (nI m) v q 1 1 z z kc ks sz a1 a2 a3 a4 a5 a6 a7 a8 a9 a10 a11 a12 a13 := by
  unfold wL_lawOf_165
  refine br_t rfl (qz_ru1 hi hk h1 hm hm2 (qz_norm (br_f (by decide) (br_f (by decide) ?_))))
  rw [h2]
  exact qz_209 hi hk h1 h3 _ H
theorem qz_140 {post : Int32 → St0 → Prop} {mc ms kc ks : Nat} {sz p v q : Int32} {a1 a2 a3 a4 a5 a6 a7 a8 a9 a10 a11 a12 a13 : Nat → Int32} {i k : Nat} (hi : i < 3) (hk : k ≤ 4) (h1 : a1 i = nI k) (h3 : ∀ j, a3 j = 0) (hp : p < 1 ∨ nI k < p) (H : post 1 ()) : wL_lawOf_140 post mc ms (nI i) p v q 1 (-2) kc ks sz a1 a2 a3 a4 a5 a6 a7 a8 a9 a10 a11 a12 a13 := by
  unfold wL_lawOf_140 wL_lawOf_141
  exact br_f (by decide) (br_t rfl (qz_165a hi hk h1 h3 hp _ H))
theorem qz_110 {post : Int32 → St0 → Prop} {mc ms kc ks : Nat} {sz p v q : Int32} {a1 a2 a3 a4 a5 a6 a7 a8 a9 a10 a11 a12 a13 : Nat → Int32} {i k : Nat} (hi : i < 3) (hk : k ≤ 4) (h1 : a1 i = nI k) (h2 : ∀ j, a2 j = 0) (h3 : ∀ j, a3 j = 0) (z : Int32) (H : post 1 ()) : wL_lawOf_110 post mc ms (nI i) p v q 1 (nI k) z z kc ks sz a1 a2 a3 a4 a5 a6 a7 a8 a9 a10 a11 a12 a13 := by
  unfold wL_lawOf_110
  refine br_t rfl ?_
  by_cases hp : p < 1
  · exact qz_ru0 hi h1 (Or.inl hp) (br_t hp (qz_140 hi hk h1 h3 (Or.inl hp) H))
  · by_cases hq : nI k < p
    · exact qz_ru0 hi h1 (Or.inr hq) (br_f hp (br_t hq (qz_140 hi hk h1 h3 (Or.inr hq) H)))
    · have hp0 : ¬ p < 0 := by
        rw [Int32.lt_iff_toInt_lt] at hp ⊢
        have e1 : (1 : Int32).toInt = 1 := by decide
        have e0 : (0 : Int32).toInt = 0 := by decide
        omega
      obtain ⟨m, hm, rfl⟩ := nI_of hp0
      have m1 : 1 ≤ m := by
        rcases Nat.lt_or_ge m 1 with t | t
        · exact absurd (nI_lt (b := 1) t (by decide)) hp
        · exact t
      have m2 : m ≤ k := by
        rcases Nat.lt_or_ge k m with t | t
        · exact absurd (nI_lt t hm) hq
        · exact t
      refine qz_ru1 hi hk h1 m1 m2 (br_f hp (br_f hq ?_))
      rw [h2]
      unfold wL_lawOf_141
      exact br_f (by decide) (br_f (by decide) (qz_165b hi hk h1 h3 m1 m2 pk_us _ H))
theorem qz_84 {post : Int32 → St0 → Prop} {mc ms kc ks : Nat} {sz p v q : Int32} {a1 a2 a3 a4 a5 a6 a7 a8 a9 a10 a11 a12 a13 : Nat → Int32} {i k : Nat} (hi : i < 3) (hk : k ≤ 4) (h1 : a1 i = nI k) (h2 : ∀ j, a2 j = 0) (h3 : ∀ j, a3 j = 0) (z : Int32) (H : post 1 ()) : wL_lawOf_84 post mc ms (nI i) p v q 1 (nI k) z z kc ks sz a1 a2 a3 a4 a5 a6 a7 a8 a9 a10 a11 a12 a13 := by
  unfold wL_lawOf_84
  refine br_t rfl (qz_oF hi (br_f (by decide) ?_))
  rw [h1]
  exact qz_110 hi hk h1 h2 h3 _ H
/-- s is out of range: every call answers -1 -/
theorem qz_b84 {post : Int32 → St0 → Prop} {mc ms kc ks : Nat} {x p v q h sz : Int32} {a1 a2 a3 a4 a5 a6 a7 a8 a9 a10 a11 a12 a13 : Nat → Int32} (hx : x < 0 ∨ 2 < x) (z : Int32) (H : post 1 ()) : wL_lawOf_84 post mc ms x p v q 0 h z z kc ks sz a1 a2 a3 a4 a5 a6 a7 a8 a9 a10 a11 a12 a13 := by
  have K246 : ∀ (z sz : Int32) (a1 a2 a3 a4 a5 a6 a7 a8 a9 a10 a11 a12 a13 : Nat → Int32), wL_lawOf_246 post mc ms x p 0 z z kc ks sz a1 a2 a3 a4 a5 a6 a7 a8 a9 a10 a11 a12 a13 := by
    intro z sz a1 a2 a3 a4 a5 a6 a7 a8 a9 a10 a11 a12 a13
    unfold wL_lawOf_246 wpX_shortest
    exact br_t rfl (qz_bad hx (br_t rfl (br_t rfl (br_t rfl H))))
  have K209 : ∀ (z sz : Int32) (a1 a2 a3 a4 a5 a6 a7 a8 a9 a10 a11 a12 a13 : Nat → Int32), wL_lawOf_209 post mc ms x p q 0 z z kc ks sz a1 a2 a3 a4 a5 a6 a7 a8 a9 a10 a11 a12 a13 := by
    intro z sz a1 a2 a3 a4 a5 a6 a7 a8 a9 a10 a11 a12 a13
    unfold wL_lawOf_209 wpX_term
    exact br_t rfl (qz_bad hx (br_t rfl (br_t rfl (K246 _ _ _ _ _ _ _ _ _ _ _ _ _ _ _))))
  have K165 : ∀ (z y sz : Int32) (a1 a2 a3 a4 a5 a6 a7 a8 a9 a10 a11 a12 a13 : Nat → Int32), wL_lawOf_165 post mc ms x p v q 0 y z z kc ks sz a1 a2 a3 a4 a5 a6 a7 a8 a9 a10 a11 a12 a13 := by
    intro z y sz a1 a2 a3 a4 a5 a6 a7 a8 a9 a10 a11 a12 a13
    unfold wL_lawOf_165 wpX_rule
    exact br_t rfl (qz_bad hx (br_t rfl (qz_norm (br_t rfl (K209 _ _ _ _ _ _ _ _ _ _ _ _ _ _ _)))))
  have K141 : ∀ (y sz : Int32) (a1 a2 a3 a4 a5 a6 a7 a8 a9 a10 a11 a12 a13 : Nat → Int32), wL_lawOf_141 post mc ms x p v q 0 (-1) y kc ks sz a1 a2 a3 a4 a5 a6 a7 a8 a9 a10 a11 a12 a13 := by
    intro y sz a1 a2 a3 a4 a5 a6 a7 a8 a9 a10 a11 a12 a13
    unfold wL_lawOf_141
    exact br_t rfl (K165 _ _ _ _ _ _ _ _ _ _ _ _ _ _ _ _)
  have K110 : ∀ (z sz : Int32) (a1 a2 a3 a4 a5 a6 a7 a8 a9 a10 a11 a12 a13 : Nat → Int32), wL_lawOf_110 post mc ms x p v q 0 h z z kc ks sz a1 a2 a3 a4 a5 a6 a7 a8 a9 a10 a11 a12 a13 := by
    intro z sz a1 a2 a3 a4 a5 a6 a7 a8 a9 a10 a11 a12 a13
    unfold wL_lawOf_110 wpX_rule wL_lawOf_140
    exact br_t rfl (qz_bad hx (br_t rfl (br_c (fun _ => K141 _ _ _ _ _ _ _ _ _ _ _ _ _ _ _) (fun _ => br_c (fun _ => K141 _ _ _ _ _ _ _ _ _ _ _ _ _ _ _) (fun _ => K141 _ _ _ _ _ _ _ _ _ _ _ _ _ _ _)))))
  unfold wL_lawOf_84 wpX_orderOf
  exact br_t rfl (qz_bad hx (br_t rfl (br_t rfl (K110 _ _ _ _ _ _ _ _ _ _ _ _ _ _ _))))
end
section
theorem qz_init {post : St2 → Prop} (H : post (0, (fun _ => 0), (fun _ => 0), (fun _ => 0), (fun _ => 0), (fun _ => 0), (fun _ => 0), (fun _ => 0), (fun _ => 0), (fun _ => 0), (fun _ => 0), (fun _ => 0), (fun _ => 0), (fun _ => 0))) : wpX_init post 13 222 0 := by
  unfold wpX_init
  refine ⟨by omega, by omega, by omega, by omega, by omega, by omega, by omega, by omega, by omega, by omega, by omega, by omega, by omega, by omega, by omega, by omega, by omega, by omega, by omega, by omega, by omega, by omega, by omega, by omega, by omega, by omega, H⟩
/-- s out of range -/
theorem qz_b42 {post : Int32 → St0 → Prop} {x y p v q f h : Int32} (hx : x < 0 ∨ 2 < x) (H : post 1 ()) : wL_lawOf_42 post 148 2368 x y p v q 0 f h 0 0 := by
  unfold wL_lawOf_42
  refine ⟨by omega, by omega, 13, 222, by omega, by omega, qz_init ?_⟩
  unfold wpX_order
  exact qz_bad hx (br_t rfl (br_t rfl (qz_b84 hx _ H)))
/-- s good, the order fits -/
theorem qz_g42 {post : Int32 → St0 → Prop} {p v q : Int32} {i k : Nat} (hi : i < 3) (hk : k ≤ 4) (H : post 1 ()) : wL_lawOf_42 post 148 2368 (nI i) (nI k) p v q 1 1 (nI k) 0 0 := by
  unfold wL_lawOf_42
  refine ⟨by omega, by omega, 13, 222, by omega, by omega, qz_init ?_⟩
  exact qz_or hi hk rfl (fun _ => rfl) (fun _ => rfl) (fun b1 b2 b3 e1 e2 e3 => br_f (by decide) (br_f (by decide) (qz_84 hi hk e1 e2 e3 _ H)))
/-- s good, the order does not fit -/
theorem qz_n42 {post : Int32 → St0 → Prop} {y p v q : Int32} {i : Nat} (hi : i < 3) (hy : y < 0 ∨ 4 < y) (H : post 1 ()) : wL_lawOf_42 post 148 2368 (nI i) y p v q 1 0 0 0 0 := by
  have F : ∀ sz a1 a2 a3 a4 a5 a6 a7 a8 a9 a10 a11 a12 a13, a1 i = nI 0 → (∀ j, a2 j = 0) → (∀ j, a3 j = 0) → wL_lawOf_84 post 148 2368 (nI i) p v q 1 (nI 0) (-2) (-2) (0 + 1 + 13) (0 + 14 + 222) sz a1 a2 a3 a4 a5 a6 a7 a8 a9 a10 a11 a12 a13 :=
    fun sz a1 a2 a3 a4 a5 a6 a7 a8 a9 a10 a11 a12 a13 e1 e2 e3 => qz_84 hi (by omega) e1 e2 e3 _ H
  unfold wL_lawOf_42
  refine ⟨by omega, by omega, 13, 222, by omega, by omega, qz_init ?_⟩
  unfold wpX_order
  refine qz_good hi (br_f (by decide) (br_c (fun _ => br_f (by decide) (br_t rfl (F _ _ _ _ _ _ _ _ _ _ _ _ _ _ rfl (fun _ => rfl) (fun _ => rfl)))) (fun z => br_f ?_ (br_f (by decide) (br_t rfl (F _ _ _ _ _ _ _ _ _ _ _ _ _ _ rfl (fun _ => rfl) (fun _ => rfl)))))))
  have h := hy.resolve_left z
  rw [Int32.lt_iff_toInt_lt] at h
  rw [Int32.le_iff_toInt_le]
  omega
theorem qz_14b {post : Int32 → St0 → Prop} {x y p v q : Int32} (hx : x < 0 ∨ 2 < x) (H : post 1 ()) : wL_lawOf_14 post 148 2368 x y p v q 0 0 0 := by
  unfold wL_lawOf_14 wL_lawOf_29 wL_lawOf_30
  exact br_c (fun _ => br_t rfl (qz_b42 hx H)) (fun _ => br_c (fun _ => br_t rfl (qz_b42 hx H)) (fun _ => br_f (by decide) (qz_b42 hx H)))
theorem qz_14g {post : Int32 → St0 → Prop} {y p v q : Int32} {i : Nat} (hi : i < 3) (H : post 1 ()) : wL_lawOf_14 post 148 2368 (nI i) y p v q 1 0 0 := by
  unfold wL_lawOf_14 wL_lawOf_29 wL_lawOf_30
  refine br_c (fun z => br_t rfl (qz_n42 hi (Or.inl z) H)) (fun z => br_c (fun z => br_t rfl (qz_n42 hi (Or.inr z) H)) (fun z2 => br_f (by decide) ?_))
  obtain ⟨k, hk, rfl⟩ := nI_of z
  have k4 : k ≤ 4 := by
    rcases Nat.lt_or_ge 4 k with t | t
    · exact absurd (nI_lt t hk) z2
    · exact t
  exact qz_g42 hi k4 H
theorem qz_lawOf {post : Int32 → St0 → Prop} (x y p v q : Int32) (H : post 1 ()) : wpL_lawOf post 148 2368 () x y p v q := by
  unfold wpL_lawOf wL_lawOf_13
  refine br_c (fun z => qz_14b (Or.inl z) H) (fun z => br_c (fun z => qz_14b (Or.inr z) H) (fun z2 => ?_))
  obtain ⟨i, hi, rfl⟩ := nI_of z
  have i3 : i < 3 := by
    rcases Nat.lt_or_ge 2 i with t | t
    · exact absurd (nI_lt t hi) z2
    · omega
  exact qz_14g i3 H
theorem i_vc (xs : Nat → Int32) (L : Nat) (hL : L ≤ 5) : wpL_law (fun r => r = 1) L xs := by
  unfold wpL_law
  exact qz_cell (i := 0) hL (by omega) (fun r1 => qz_cell (i := 1) hL (by omega) (fun r2 => qz_cell (i := 2) hL (by omega) (fun r3 => qz_cell (i := 3) hL (by omega) (fun r4 => qz_cell (i := 4) hL (by omega) (fun r5 => ⟨148, 2368, by omega, by omega, qz_lawOf r1 r2 r3 r4 r5 rfl⟩)))))
end
