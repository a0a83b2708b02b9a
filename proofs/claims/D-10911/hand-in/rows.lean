section
/-! ===== the pictures ===== -/
/-- meter j is fresh: the time is 0, its burst is b, its span is s, nothing granted yet -/
def rl_P (j b s : Nat) (u : St2) : Prop := match u with
  | (f0, _, _, a3, a4, a5, _, a7, a8, a9, a10, a11, a12, _, _) => f0 = 0 ∧ a3 j = nI b ∧ a4 j = nI s ∧ a5 j = 0 ∧ a7 j = nI b ∧ a8 j = 0 ∧ a9 j = (-1000000) ∧ a10 j = 0 ∧ a11 j = 0 ∧ a12 j = 0
/-- the numbers of a meter -/
def rl_N (b s : Nat) : Prop := 1 ≤ b ∧ b ≤ 30 ∧ 1 ≤ s ∧ s ≤ 10
/-- behind the ask: the time is still 0, meter j has granted g -/
def rl_Q (j : Nat) (g : Int32) (u : St2) : Prop := match u with
  | (f0, _, _, _, _, a5, _, _, _, _, _, _, _, _, _) => f0 = 0 ∧ a5 j = g
/-- no meter -/
def rl_B (x : Int32) : Prop := x < 0 ∨ ¬ x < 4
/-- a cost out of range -/
def rl_C (x : Int32) : Prop := x < 1 ∨ ¬ x ≤ 20
theorem rl_cl {j : Nat} (hj : j < 4) : (nI j).toNatClampNeg = j := nI_clamp (by omega)
theorem rl_in {j : Nat} (hj : j < 4) : vp_in (nI j) 4 := vp_in_nI hj (by decide)
/-! ===== the two static checks ===== -/
theorem rl_bad0 {post : Int32 → Prop} {u : St0} {j : Nat} (hj : j < 4) (H : post 0) : wpX_bad post u (nI j) :=
  br_f (nI_pos (by omega)) (br_t (nI_lt (b := 4) hj (by decide)) H)
theorem rl_bad1 {post : Int32 → Prop} {u : St0} {x : Int32} (h : rl_B x) (H : post 1) : wpX_bad post u x :=
  br_c (fun _ => H) (fun g => br_f (h.resolve_left g) H)
theorem rl_cost0 {post : Int32 → Prop} {u : St0} {c : Nat} (h1 : 1 ≤ c) (h2 : c ≤ 20) (H : post 0) : wpX_badCost post u (nI c) :=
  br_f (nI_nlt (b := 1) h1 (by omega)) (br_t (nI_le (b := 20) h2 (by decide)) H)
theorem rl_cost1 {post : Int32 → Prop} {u : St0} {x : Int32} (h : rl_C x) (H : post 1) : wpX_badCost post u x :=
  br_c (fun _ => H) (fun g => br_f (h.resolve_left g) H)
/-! ===== start ===== -/
theorem rl_start {post : St2 → Prop} {u : St2} {j b s : Nat} {k r : Int32} (hj : j < 4) (h0 : u.1 = 0)
    (H : ∀ u' : St2, u'.1 = 0 → rl_P j b s u' → (∀ i b' s' : Nat, i ≠ j → rl_P i b' s' u → rl_P i b' s' u') → post u') :
    wpX_start post u (nI j) k r (nI b) (nI s) := by
  obtain ⟨f0, a1, a2, a3, a4, a5, a6, a7, a8, a9, a10, a11, a12, a13, a14⟩ := u
  have h0' : f0 = 0 := h0
  subst h0'
  have hin : vp_in (nI j) 4 := rl_in hj
  unfold wpX_start
  dsimp only
  rw [rl_cl hj]
  refine ⟨hin, fun b1 e1 => ⟨hin, fun b2 e2 => ⟨hin, fun b3 e3 => ⟨hin, fun b4 e4 => ⟨hin, fun b5 e5 => ⟨hin, fun b6 e6 => ⟨hin, fun b7 e7 => ⟨hin, fun b8 e8 => ⟨hin, fun b9 e9 => ⟨hin, fun b10 e10 => ⟨hin, fun b11 e11 => ⟨hin, fun b12 e12 => ?_⟩⟩⟩⟩⟩⟩⟩⟩⟩⟩⟩⟩
  subst e1 e2 e3 e4 e5 e6 e7 e8 e9 e10 e11 e12
  refine H _ rfl ⟨rfl, pk_us, pk_us, pk_us, pk_us, pk_us, pk_us, pk_us, pk_us, pk_us⟩ ?_
  intro i b' s' hi h
  obtain ⟨_, h3, h4, h5, h7, h8, h9, h10, h11, h12⟩ := h
  exact ⟨rfl, (pk_un hi).trans h3, (pk_un hi).trans h4, (pk_un hi).trans h5, (pk_un hi).trans h7, (pk_un hi).trans h8, (pk_un hi).trans h9, (pk_un hi).trans h10, (pk_un hi).trans h11, (pk_un hi).trans h12⟩
/-! ===== the constructor ===== -/
theorem rl_init {post : St2 → Prop} {mc ms : Nat} (hc : 14 ≤ mc) (hs : 304 ≤ ms)
    (H : ∀ u' : St2, u'.1 = 0 → (∀ i : Nat, i < 4 → rl_P i 10 1 u') → post u') : wpX_init post mc ms 0 := by
  have L : ∃ n, wX_init_108 post mc ms 14 304 n (nI 0) 0 (fun _ => 0) (fun _ => 0) (fun _ => 0) (fun _ => 0) (fun _ => 0) (fun _ => 0) (fun _ => 0) (fun _ => 0) (fun _ => 0) (fun _ => 0) (fun _ => 0) (fun _ => 0) (fun _ => 0) (fun _ => 0) := by
    refine pk_loop (σ := St2) (fun n i s => wX_init_108 post mc ms 14 304 n (nI i) s.1 s.2.1 s.2.2.1 s.2.2.2.1 s.2.2.2.2.1 s.2.2.2.2.2.1 s.2.2.2.2.2.2.1 s.2.2.2.2.2.2.2.1 s.2.2.2.2.2.2.2.2.1 s.2.2.2.2.2.2.2.2.2.1 s.2.2.2.2.2.2.2.2.2.2.1 s.2.2.2.2.2.2.2.2.2.2.2.1 s.2.2.2.2.2.2.2.2.2.2.2.2.1 s.2.2.2.2.2.2.2.2.2.2.2.2.2.1 s.2.2.2.2.2.2.2.2.2.2.2.2.2.2)
      (fun i s => s.1 = 0 ∧ ∀ k : Nat, k < i → rl_P k 10 1 s) 4 0 (0, (fun _ => 0), (fun _ => 0), (fun _ => 0), (fun _ => 0), (fun _ => 0), (fun _ => 0), (fun _ => 0), (fun _ => 0), (fun _ => 0), (fun _ => 0), (fun _ => 0), (fun _ => 0), (fun _ => 0), (fun _ => 0)) (by omega) ⟨rfl, fun k hk => absurd hk (by omega)⟩ ?_ ?_
    · intro n s h
      obtain ⟨f0, a1, a2, a3, a4, a5, a6, a7, a8, a9, a10, a11, a12, a13, a14⟩ := s
      exact br_t (nI_le (a := 4) (b := 4) (Nat.le_refl 4) (by decide)) (H _ h.1 h.2)
    · intro n i s hi h hw
      obtain ⟨f0, a1, a2, a3, a4, a5, a6, a7, a8, a9, a10, a11, a12, a13, a14⟩ := s
      refine br_f (nI_ge (b := 4) hi (by decide)) (rl_start (b := 10) (s := 1) hi h.1 (fun u' h0 hP hk => ?_))
      have g := hw u' ⟨h0, fun k hk' => by
        by_cases e : k = i
        · rw [e]; exact hP
        · exact hk k 10 1 e (h.2 k (by omega))⟩
      obtain ⟨f0', b1, b2, b3, b4, b5, b6, b7, b8, b9, b10, b11, b12, b13, b14⟩ := u'
      exact nm_r (nI_1 i) g
  obtain ⟨n, hn⟩ := L
  unfold wpX_init
  exact ⟨by omega, by omega, by omega, by omega, by omega, by omega, by omega, by omega, by omega, by omega, by omega, by omega, by omega, by omega, by omega, by omega, by omega, by omega, by omega, by omega, by omega, by omega, by omega, by omega, by omega, by omega, by omega, by omega, n, hn⟩
/-! ===== set ===== -/
/-- the numbers are in range -/
def rl_ok (x : Int32) : Prop := ¬ x &&& 7 < 1 ∧ ¬ 5 < x &&& 7 ∧ ¬ (x >>> ((3 : Int32) &&& 31)) &&& 31 < 1 ∧ ¬ 30 < (x >>> ((3 : Int32) &&& 31)) &&& 31 ∧ ¬ (x >>> ((8 : Int32) &&& 31)) &&& 15 < 1 ∧ (x >>> ((8 : Int32) &&& 31)) &&& 15 ≤ 10
theorem rl_set1 {post : Int32 → St2 → Prop} {u : St2} {x k m : Int32} (h : rl_B x) (H : post (-1) u) : wpX_set post u x k m := by
  obtain ⟨f0, a1, a2, a3, a4, a5, a6, a7, a8, a9, a10, a11, a12, a13, a14⟩ := u
  unfold wpX_set
  exact rl_bad1 h (br_f (by decide) H)
theorem rl_set2 {post : Int32 → St2 → Prop} {u : St2} {j : Nat} {k m : Int32} (hj : j < 4) (h : k < 0 ∨ ¬ k ≤ 2) (H : post (-2) u) : wpX_set post u (nI j) k m := by
  obtain ⟨f0, a1, a2, a3, a4, a5, a6, a7, a8, a9, a10, a11, a12, a13, a14⟩ := u
  unfold wpX_set
  exact rl_bad0 hj (br_t rfl (br_c (fun _ => H) (fun g => br_f (h.resolve_left g) H)))
theorem rl_set3 {post : Int32 → St2 → Prop} {u : St2} {j : Nat} {k m : Int32} (hj : j < 4) (h1 : ¬ k < 0) (h2 : k ≤ 2) (h : ¬ rl_ok m) (H : post (-3) u) : wpX_set post u (nI j) k m := by
  obtain ⟨f0, a1, a2, a3, a4, a5, a6, a7, a8, a9, a10, a11, a12, a13, a14⟩ := u
  unfold wpX_set
  exact rl_bad0 hj (br_t rfl (br_f h1 (br_t h2 (nm_e (nm_e (nm_e (br_c (fun _ => H) (fun g1 => br_c (fun _ => H) (fun g2 => br_c (fun _ => H) (fun g3 => br_c (fun _ => H) (fun g4 => br_c (fun _ => H) (fun g5 => br_c (fun g6 => absurd ⟨g1, g2, g3, g4, g5, g6⟩ h) (fun _ => H)))))))))))))
theorem rl_set0 {post : Int32 → St2 → Prop} {u : St2} {j b s : Nat} {k m : Int32} (hj : j < 4) (h1 : ¬ k < 0) (h2 : k ≤ 2) (h : rl_ok m) (h0 : u.1 = 0)
    (hb : (m >>> ((3 : Int32) &&& 31)) &&& 31 = nI b) (hs : (m >>> ((8 : Int32) &&& 31)) &&& 15 = nI s)
    (H : ∀ u' : St2, rl_P j b s u' → post 0 u') : wpX_set post u (nI j) k m := by
  obtain ⟨f0, a1, a2, a3, a4, a5, a6, a7, a8, a9, a10, a11, a12, a13, a14⟩ := u
  unfold wpX_set
  obtain ⟨g1, g2, g3, g4, g5, g6⟩ := h
  refine rl_bad0 hj (br_t rfl (br_f h1 (br_t h2 (nm_e (nm_e (nm_e (br_f g1 (br_f g2 (br_f g3 (br_f g4 (br_f g5 (br_t g6 ?_))))))))))))
  rw [hb, hs]
  refine rl_start hj h0 (fun u' _ hP _ => ?_)
  obtain ⟨f0', b1, b2, b3, b4, b5, b6, b7, b8, b9, b10, b11, b12, b13, b14⟩ := u'
  exact H _ hP
/-! ===== catchUp, base, roomOf, room ===== -/
theorem rl_catchUp {post : St2 → Prop} {u : St2} {j b s : Nat} (hj : j < 4) (hP : rl_P j b s u) (H : ∀ u' : St2, rl_P j b s u' → post u') : wpX_catchUp post u (nI j) := by
  obtain ⟨f0, a1, a2, a3, a4, a5, a6, a7, a8, a9, a10, a11, a12, a13, a14⟩ := u
  obtain ⟨h0, h3, h4, h5, h7, h8, h9, h10, h11, h12⟩ := hP
  subst h0
  have hin : vp_in (nI j) 4 := rl_in hj
  have cl := rl_cl hj
  have key : ∀ z0 : Int32, z0 = nI b → wX_catchUp_51 post (nI j) z0 (nI j) 0 a1 a2 a3 a4 a5 a6 a7 a8 a9 a10 a11 a12 a13 a14 := by
    intro z0 hz
    subst hz
    unfold wX_catchUp_51
    rw [cl]
    refine ⟨hin, fun b7 e7 => ⟨hin, fun b8 e8 => ⟨0 + 1, br_f (by decide) ⟨hin, br_t ?_ (H _ ?_)⟩⟩⟩⟩
    · rw [cl, h11]; decide
    · subst e7 e8
      exact ⟨rfl, h3, h4, h5, pk_us, pk_us, h9, h10, h11, h12⟩
  unfold wpX_catchUp
  dsimp only
  rw [cl]
  refine ⟨hin, hin, hin, fun x2 e2 => ⟨hin, br_c (fun _ => ⟨hin, key _ h3⟩) (fun _ => key _ ?_)⟩⟩
  rw [e2, h7, h8, show (0 : Int32) - 0 = 0 from rfl, Int32.mul_zero, Int32.add_zero]
theorem rl_base {post : Int32 → Prop} {a1 a2 a3 a4 a5 a6 a7 a8 a9 a10 a11 a12 a13 a14 : Nat → Int32} {j : Nat} (hj : j < 4) (h9 : a9 j = (-1000000)) (H : post 0) :
    wpX_base post (0, a1, a2, a3, a4, a5, a6, a7, a8, a9, a10, a11, a12, a13, a14) (nI j) := by
  unfold wpX_base
  dsimp only
  rw [rl_cl hj, h9]
  exact ⟨rl_in hj, br_t (by decide) H⟩
theorem rl_roomOf {post : Int32 → St2 → Prop} {u : St2} {j b s : Nat} (hj : j < 4) (hN : rl_N b s) (hP : rl_P j b s u) (H : ∀ u' : St2, rl_P j b s u' → post (nI b) u') : wpX_roomOf post u (nI j) := by
  obtain ⟨f0, a1, a2, a3, a4, a5, a6, a7, a8, a9, a10, a11, a12, a13, a14⟩ := u
  have hin : vp_in (nI j) 4 := rl_in hj
  have cl := rl_cl hj
  unfold wpX_roomOf
  refine rl_catchUp hj hP (fun u' h' => ?_)
  clear hP
  obtain ⟨f0', b1, b2, b3, b4, b5, b6, b7, b8, b9, b10, b11, b12, b13, b14⟩ := u'
  have hQ := H _ h'
  clear H
  obtain ⟨h0, h3, h4, h5, h7, h8, h9, h10, h11, h12⟩ := h'
  subst h0
  dsimp only
  rw [cl]
  obtain ⟨n1, n2, n3, n4⟩ := hN
  refine ⟨hin, br_c (fun _ => ⟨hin, ?_⟩) (fun _ => ⟨hin, br_c (fun _ => ⟨hin, hin, ?_⟩) (fun _ => ?_)⟩)⟩
  · rw [h7]; exact hQ
  · rw [h3, h12, Int32.sub_zero]; exact hQ
  · refine rl_base hj h9 ?_
    have hm : b * s ≤ 30 * 10 := Nat.mul_le_mul n2 n4
    have e : b3 j * b4 j - ((0 : Int32) - 0) = nI (b * s) := by
      rw [h3, h4, show (0 : Int32) - 0 = 0 from rfl, Int32.sub_zero, pk_mul]
    have d : nI (b * s) / nI s = nI b := by
      rw [pk_div (by omega) (by omega) (by omega), Nat.mul_div_cancel b (by omega)]
    refine nm_e ⟨hin, hin, nm_r e (br_t (nI_pos' (by omega)) ⟨hin, br_f ?_ ⟨hin, ?_, ?_⟩⟩)⟩
    · rw [h4]; exact nI_nle (by omega) (by omega)
    · rw [h4]; exact nI_ne0 (by omega) (by omega)
    · rw [h4, d]; exact hQ
theorem rl_room1 {post : Int32 → St2 → Prop} {u : St2} {x : Int32} (h : rl_B x) (H : post (-1) u) : wpX_room post u x := by
  obtain ⟨f0, a1, a2, a3, a4, a5, a6, a7, a8, a9, a10, a11, a12, a13, a14⟩ := u
  unfold wpX_room
  exact rl_bad1 h (br_f (by decide) H)
theorem rl_room0 {post : Int32 → St2 → Prop} {u : St2} {j b s : Nat} (hj : j < 4) (hN : rl_N b s) (hP : rl_P j b s u) (H : ∀ u' : St2, rl_P j b s u' → post (nI (min b 20)) u') : wpX_room post u (nI j) := by
  obtain ⟨f0, a1, a2, a3, a4, a5, a6, a7, a8, a9, a10, a11, a12, a13, a14⟩ := u
  have n2 : b ≤ 30 := hN.2.1
  unfold wpX_room
  refine rl_bad0 hj (br_t rfl (rl_roomOf hj hN hP (fun u' h' => ?_)))
  have hQ := H _ h'
  obtain ⟨f0', b1, b2, b3, b4, b5, b6, b7, b8, b9, b10, b11, b12, b13, b14⟩ := u'
  refine br_t (nI_pos' (by omega)) (pk_le b 20 (fun z => ?_) (fun z => ?_))
  · rw [show min b 20 = b by omega] at hQ; exact hQ
  · rw [show min b 20 = 20 by omega] at hQ; exact hQ
end
section
/-! ===== waitFor ===== -/
theorem rl_wait1 {post : Int32 → St2 → Prop} {u : St2} {x c : Int32} (h : rl_B x) (H : post (-1) u) : wpX_waitFor post u x c := by
  obtain ⟨f0, a1, a2, a3, a4, a5, a6, a7, a8, a9, a10, a11, a12, a13, a14⟩ := u
  unfold wpX_waitFor
  exact rl_bad1 h (br_f (by decide) H)
theorem rl_wait3 {post : Int32 → St2 → Prop} {u : St2} {j : Nat} {c : Int32} (hj : j < 4) (h : rl_C c) (H : post (-3) u) : wpX_waitFor post u (nI j) c := by
  obtain ⟨f0, a1, a2, a3, a4, a5, a6, a7, a8, a9, a10, a11, a12, a13, a14⟩ := u
  unfold wpX_waitFor
  exact rl_bad0 hj (br_t rfl (rl_cost1 h (br_f (by decide) H)))
theorem rl_wait4 {post : Int32 → St2 → Prop} {u : St2} {j b s c : Nat} (hj : j < 4) (hP : rl_P j b s u) (h1 : 1 ≤ c) (h2 : c ≤ 20) (h : b < c) (H : post (-4) u) : wpX_waitFor post u (nI j) (nI c) := by
  obtain ⟨f0, a1, a2, a3, a4, a5, a6, a7, a8, a9, a10, a11, a12, a13, a14⟩ := u
  obtain ⟨h0, h3, _⟩ := hP
  unfold wpX_waitFor
  refine rl_bad0 hj (br_t rfl (rl_cost0 h1 h2 (br_t rfl ⟨rl_in hj, br_f ?_ H⟩)))
  rw [rl_cl hj, h3]
  exact nI_ge h (by omega)
theorem rl_wait0 {post : Int32 → St2 → Prop} {u : St2} {j b s c : Nat} (hj : j < 4) (hN : rl_N b s) (hP : rl_P j b s u) (h1 : 1 ≤ c) (h2 : c ≤ 20) (h : c ≤ b) (H : ∀ u' : St2, rl_P j b s u' → post 0 u') : wpX_waitFor post u (nI j) (nI c) := by
  obtain ⟨f0, a1, a2, a3, a4, a5, a6, a7, a8, a9, a10, a11, a12, a13, a14⟩ := u
  have n2 : b ≤ 30 := hN.2.1
  have h3 : a3 j = nI b := hP.2.1
  unfold wpX_waitFor
  refine rl_bad0 hj (br_t rfl (rl_cost0 h1 h2 (br_t rfl ⟨rl_in hj, br_t ?_ (rl_roomOf hj hN hP (fun u' h' => ?_))⟩)))
  · rw [rl_cl hj, h3]
    exact nI_le h (by omega)
  · have hQ := H _ h'
    obtain ⟨f0', b1, b2, b3, b4, b5, b6, b7, b8, b9, b10, b11, b12, b13, b14⟩ := u'
    exact br_f (nI_nlt h (by omega)) hQ
/-! ===== grant, ask ===== -/
theorem rl_at : ∀ j, j < 4 → vp_in (nI j * 32 + (((0 : Int32) + 0) &&& 31)) 128 := by
  intro j hj
  have e : nI j * 32 + (((0 : Int32) + 0) &&& 31) = nI (j * 32) := by
    rw [show (((0 : Int32) + 0) &&& 31) = 0 by decide, Int32.add_zero]
    exact pk_mul j 32
  rw [e]
  exact vp_in_nI (by omega) (by decide)
theorem rl_grant {post : St2 → Prop} {u : St2} {j b s : Nat} {c : Int32} (hj : j < 4) (hP : rl_P j b s u) (H : ∀ u' : St2, rl_Q j c u' → post u') : wpX_grant post u (nI j) c := by
  obtain ⟨f0, a1, a2, a3, a4, a5, a6, a7, a8, a9, a10, a11, a12, a13, a14⟩ := u
  have hin : vp_in (nI j) 4 := rl_in hj
  have cl := rl_cl hj
  obtain ⟨h0, h3, h4, h5, h7, h8, h9, h10, h11, h12⟩ := hP
  subst h0
  have hg : upd a5 j (a5 j + c) j = c := by rw [pk_us, h5, Int32.zero_add]
  unfold wpX_grant
  dsimp only
  rw [cl]
  refine ⟨hin, hin, nm_e ⟨hin, br_c (fun _ => ⟨hin, hin, nm_e (H _ ⟨rfl, hg⟩)⟩) (fun _ => ⟨hin, br_c (fun _ => ⟨hin, hin, ?_⟩) (fun _ => rl_base hj h9 ⟨hin, hin, nm_e (H _ ⟨rfl, hg⟩)⟩)⟩)⟩⟩
  rw [h10, h11]
  exact nm_e ⟨rl_at j hj, nm_e ⟨rl_at j hj, nm_e ⟨hin, hin, nm_e ⟨hin, hin, nm_e (H _ ⟨rfl, hg⟩)⟩⟩⟩⟩
theorem rl_ask1 {post : Int32 → St2 → Prop} {u : St2} {x c : Int32} (h : rl_B x) (H : post (-1) u) : wpX_ask post u x c := by
  obtain ⟨f0, a1, a2, a3, a4, a5, a6, a7, a8, a9, a10, a11, a12, a13, a14⟩ := u
  unfold wpX_ask
  exact rl_bad1 h (br_f (by decide) H)
theorem rl_ask3 {post : Int32 → St2 → Prop} {u : St2} {j : Nat} {c : Int32} (hj : j < 4) (h : rl_C c) (H : post (-3) u) : wpX_ask post u (nI j) c := by
  obtain ⟨f0, a1, a2, a3, a4, a5, a6, a7, a8, a9, a10, a11, a12, a13, a14⟩ := u
  unfold wpX_ask
  exact rl_bad0 hj (br_t rfl (rl_cost1 h (br_f (by decide) H)))
theorem rl_ask0 {post : Int32 → St2 → Prop} {u : St2} {j b s c : Nat} (hj : j < 4) (hN : rl_N b s) (hP : rl_P j b s u) (h1 : 1 ≤ c) (h2 : c ≤ 20)
    (H0 : b < c → ∀ u' : St2, rl_Q j 0 u' → post 0 u') (H1 : c ≤ b → ∀ u' : St2, rl_Q j (nI c) u' → post 1 u') : wpX_ask post u (nI j) (nI c) := by
  obtain ⟨f0, a1, a2, a3, a4, a5, a6, a7, a8, a9, a10, a11, a12, a13, a14⟩ := u
  have hin : vp_in (nI j) 4 := rl_in hj
  have n2 : b ≤ 30 := hN.2.1
  unfold wpX_ask
  refine rl_bad0 hj (br_t rfl (rl_cost0 h1 h2 (br_t rfl (rl_roomOf hj hN hP (fun u' h' => ?_)))))
  obtain ⟨f0', b1, b2, b3, b4, b5, b6, b7, b8, b9, b10, b11, b12, b13, b14⟩ := u'
  refine pk_le c b (fun z => rl_grant hj h' (fun u'' hQ => ?_)) (fun z => ⟨hin, hin, nm_e (H0 z _ ⟨h'.1, h'.2.2.2.1⟩)⟩)
  have g := H1 z _ hQ
  obtain ⟨f0'', c1, c2, c3, c4, c5, c6, c7, c8, c9, c10, c11, c12, c13, c14⟩ := u''
  exact g
/-! ===== pass, granted ===== -/
theorem rl_pass {post : Int32 → St2 → Prop} {f0 : Int32} {a1 a2 a3 a4 a5 a6 a7 a8 a9 a10 a11 a12 a13 a14 : Nat → Int32} {p : Int32} (h0 : f0 = 0)
    (H1 : p < 0 ∨ ¬ p ≤ 1000 → post (-3) (0, a1, a2, a3, a4, a5, a6, a7, a8, a9, a10, a11, a12, a13, a14)) (H2 : ¬ p < 0 → p ≤ 1000 → post p (p, a1, a2, a3, a4, a5, a6, a7, a8, a9, a10, a11, a12, a13, a14)) :
    wpX_pass post (f0, a1, a2, a3, a4, a5, a6, a7, a8, a9, a10, a11, a12, a13, a14) p := by
  subst h0
  unfold wpX_pass
  refine br_c (fun g => H1 (Or.inl g)) (fun g => br_c (fun g2 => br_t ?_ (nm_r (Int32.zero_add p) (H2 g g2))) (fun g2 => H1 (Or.inr g2)))
  rw [Int32.zero_add]
  rw [Int32.le_iff_toInt_le] at g2 ⊢
  have e1 : (1000 : Int32).toInt = 1000 := by decide
  have e2 : (100000 : Int32).toInt = 100000 := by decide
  omega
theorem rl_granted1 {post : Int32 → Prop} {u : St2} {x : Int32} (h : rl_B x) (H : post (-1)) : wpX_granted post u x := by
  obtain ⟨f0, a1, a2, a3, a4, a5, a6, a7, a8, a9, a10, a11, a12, a13, a14⟩ := u
  unfold wpX_granted
  exact rl_bad1 h (br_f (by decide) H)
theorem rl_granted0 {post : Int32 → Prop} {f0 : Int32} {a1 a2 a3 a4 a5 a6 a7 a8 a9 a10 a11 a12 a13 a14 : Nat → Int32} {j : Nat} (hj : j < 4) (H : post (a5 j)) :
    wpX_granted post (f0, a1, a2, a3, a4, a5, a6, a7, a8, a9, a10, a11, a12, a13, a14) (nI j) := by
  unfold wpX_granted
  refine rl_bad0 hj (br_t rfl ⟨rl_in hj, ?_⟩)
  rw [rl_cl hj]
  exact H
end
section
section LAW
variable {post : Int32 → St0 → Prop} {mc ms kc ks : Nat} {x0 x1 x2 x3 x4 x6 x8 x12 x14 z0 z1 f0 : Int32} {a1 a2 a3 a4 a5 a6 a7 a8 a9 a10 a11 a12 a13 a14 : Nat → Int32} {j b s c : Nat}
/-- what granted must answer -/
def rl_T (x0 x3 x6 x14 : Int32) (a5 : Nat → Int32) : Prop := (x6 = 0 ∧ ∃ j : Nat, j < 4 ∧ x0 = nI j ∧ a5 j = (if x14 = 0 then x3 else 0)) ∨ (x6 = 1 ∧ rl_B x0)
theorem rl_320 (hz : z1 = z0) (hT : rl_T x0 x3 x6 x14 a5) (hp : post 1 ()) : wL_lawOf_320 post mc ms x0 x3 x6 x14 z0 z1 kc ks f0 a1 a2 a3 a4 a5 a6 a7 a8 a9 a10 a11 a12 a13 a14 := by
  unfold wL_lawOf_320
  refine br_t hz ?_
  rcases hT with ⟨e6, j, hj, e0, hg⟩ | ⟨e6, hB⟩
  · subst e6 e0
    refine rl_granted0 hj (br_t rfl (br_c (fun g => br_t ?_ hp) (fun g => br_t ?_ hp)))
    · rw [hg, if_pos g]
    · rw [hg, if_neg g]
  · subst e6
    exact rl_granted1 hB (br_f (by decide) (br_t rfl hp))
theorem rl_288 (hz : z1 = z0) (h0 : f0 = 0) (hT : rl_T x0 x3 x6 x14 a5) (hp : post 1 ()) : wL_lawOf_288 post mc ms x0 x3 x4 x6 x14 z0 z1 kc ks f0 a1 a2 a3 a4 a5 a6 a7 a8 a9 a10 a11 a12 a13 a14 := by
  unfold wL_lawOf_288
  refine br_t hz (rl_pass h0 (fun g => ?_) (fun g1 g2 => ?_))
  · exact br_c (fun _ => rl_320 rfl hT hp) (fun g1 => br_f (g.resolve_left g1) (rl_320 rfl hT hp))
  · exact br_f g1 (br_t g2 (rl_320 rfl hT hp))
/-! ===== waitFor and ask: the four answers ===== -/
theorem rl_245b (hB : rl_B x0) (h0 : f0 = 0) (hp : post 1 ()) : wL_lawOf_245 post mc ms x0 x3 x4 1 (-1) kc ks f0 a1 a2 a3 a4 a5 a6 a7 a8 a9 a10 a11 a12 a13 a14 := by
  unfold wL_lawOf_245
  exact rl_wait1 hB (br_t rfl (rl_ask1 hB (br_f (by decide) (br_f (by decide) (rl_288 rfl h0 (Or.inr ⟨rfl, hB⟩) hp)))))
theorem rl_245c (hj : j < 4) (hC : rl_C x3) (hP : rl_P j b s (f0, a1, a2, a3, a4, a5, a6, a7, a8, a9, a10, a11, a12, a13, a14)) (hp : post 1 ()) : wL_lawOf_245 post mc ms (nI j) x3 x4 0 (-3) kc ks f0 a1 a2 a3 a4 a5 a6 a7 a8 a9 a10 a11 a12 a13 a14 := by
  unfold wL_lawOf_245
  exact rl_wait3 hj hC (br_t rfl (rl_ask3 hj hC (br_f (by decide) (br_f (by decide) (rl_288 rfl hP.1 (Or.inl ⟨rfl, j, hj, rfl, hP.2.2.2.1.trans (if_neg (by decide)).symm⟩) hp)))))
theorem rl_245f (hj : j < 4) (hN : rl_N b s) (h1 : 1 ≤ c) (h2 : c ≤ 20) (h : b < c) (hP : rl_P j b s (f0, a1, a2, a3, a4, a5, a6, a7, a8, a9, a10, a11, a12, a13, a14)) (hp : post 1 ()) : wL_lawOf_245 post mc ms (nI j) (nI c) x4 0 (-4) kc ks f0 a1 a2 a3 a4 a5 a6 a7 a8 a9 a10 a11 a12 a13 a14 := by
  unfold wL_lawOf_245
  refine rl_wait4 hj hP h1 h2 h (br_t rfl (rl_ask0 hj hN hP h1 h2 (fun _ u' hQ => ?_) (fun z => absurd z (by omega))))
  obtain ⟨f0', b1, b2, b3, b4, b5, b6, b7, b8, b9, b10, b11, b12, b13, b14⟩ := u'
  exact br_f (by decide) (br_t rfl (rl_288 rfl hQ.1 (Or.inl ⟨rfl, j, hj, rfl, hQ.2.trans (if_neg (by decide)).symm⟩) hp))
theorem rl_245g (hj : j < 4) (hN : rl_N b s) (h1 : 1 ≤ c) (h2 : c ≤ 20) (h : c ≤ b) (hP : rl_P j b s (f0, a1, a2, a3, a4, a5, a6, a7, a8, a9, a10, a11, a12, a13, a14)) (hp : post 1 ()) : wL_lawOf_245 post mc ms (nI j) (nI c) x4 0 0 kc ks f0 a1 a2 a3 a4 a5 a6 a7 a8 a9 a10 a11 a12 a13 a14 := by
  unfold wL_lawOf_245
  refine rl_wait0 hj hN hP h1 h2 h (fun u' hP' => ?_)
  obtain ⟨f0', b1, b2, b3, b4, b5, b6, b7, b8, b9, b10, b11, b12, b13, b14⟩ := u'
  refine br_t rfl (rl_ask0 hj hN hP' h1 h2 (fun z => absurd z (by omega)) (fun _ u'' hQ => ?_))
  obtain ⟨f0'', c1, c2, c3, c4, c5, c6, c7, c8, c9, c10, c11, c12, c13, c14⟩ := u''
  exact br_t rfl (rl_288 rfl hQ.1 (Or.inl ⟨rfl, j, hj, rfl, hQ.2.trans (if_pos rfl).symm⟩) hp)
/-! ===== room ===== -/
theorem rl_191b (hB : rl_B x0) (h0 : f0 = 0) (hp : post 1 ()) : wL_lawOf_191 post mc ms x0 x3 x4 1 x12 (-1) (-1) kc ks f0 a1 a2 a3 a4 a5 a6 a7 a8 a9 a10 a11 a12 a13 a14 := by
  have k : ∀ z : Int32, wL_lawOf_212 post mc ms x0 x3 x4 1 x12 z kc ks f0 a1 a2 a3 a4 a5 a6 a7 a8 a9 a10 a11 a12 a13 a14 := fun z => br_f (by decide) (rl_245b hB h0 hp)
  unfold wL_lawOf_191
  exact br_t rfl (br_c (fun _ => k 1) (fun _ => br_c (fun _ => k 0) (fun _ => k 1)))
theorem rl_191 (hj : j < 4) (hN : rl_N b s) (hP : rl_P j b s (f0, a1, a2, a3, a4, a5, a6, a7, a8, a9, a10, a11, a12, a13, a14)) (hp : post 1 ()) : wL_lawOf_191 post mc ms (nI j) x3 x4 0 (nI (min b 20)) z0 z0 kc ks f0 a1 a2 a3 a4 a5 a6 a7 a8 a9 a10 a11 a12 a13 a14 := by
  have k : rl_C x3 → wL_lawOf_212 post mc ms (nI j) x3 x4 0 (nI (min b 20)) 1 kc ks f0 a1 a2 a3 a4 a5 a6 a7 a8 a9 a10 a11 a12 a13 a14 := fun z => br_t rfl (br_f (by decide) (rl_245c hj z hP hp))
  unfold wL_lawOf_191
  refine br_t rfl (br_c (fun g => k (Or.inl g)) (fun g1 => br_c (fun g2 => ?_) (fun g => k (Or.inr g))))
  clear k
  have g0 : ¬ x3 < 0 := by
    intro z
    apply g1
    rw [Int32.lt_iff_toInt_lt] at z ⊢
    have e0 : (0 : Int32).toInt = 0 := by decide
    have e1 : (1 : Int32).toInt = 1 := by decide
    omega
  obtain ⟨c, h2, e⟩ := nI_of2 (n := 20) (by decide) g0 g2
  subst e
  have h1 : 1 ≤ c := by
    rcases Nat.lt_or_ge c 1 with z | z
    · exact absurd (nI_lt (b := 1) z (by decide)) g1
    · exact z
  unfold wL_lawOf_212
  exact br_t rfl (br_t rfl (pk_lt (min b 20) c (fun z => rl_245f hj hN h1 h2 (by omega) hP hp) (fun z => rl_245g hj hN h1 h2 (by omega) hP hp)))
theorem rl_172b (hB : rl_B x0) (h0 : f0 = 0) (hp : post 1 ()) : wL_lawOf_172 post mc ms x0 x3 x4 1 z0 kc ks f0 a1 a2 a3 a4 a5 a6 a7 a8 a9 a10 a11 a12 a13 a14 := by
  unfold wL_lawOf_172
  exact rl_room1 hB (br_f (by decide) (rl_191b hB h0 hp))
theorem rl_172 (hj : j < 4) (hN : rl_N b s) (hP : rl_P j b s (f0, a1, a2, a3, a4, a5, a6, a7, a8, a9, a10, a11, a12, a13, a14)) (hp : post 1 ()) : wL_lawOf_172 post mc ms (nI j) x3 x4 0 (nI (min b 20)) kc ks f0 a1 a2 a3 a4 a5 a6 a7 a8 a9 a10 a11 a12 a13 a14 := by
  unfold wL_lawOf_172
  refine rl_room0 hj hN hP (fun u' hP' => ?_)
  obtain ⟨f0', b1, b2, b3, b4, b5, b6, b7, b8, b9, b10, b11, b12, b13, b14⟩ := u'
  exact br_t rfl (rl_191 hj hN hP' hp)
theorem rl_156 (hj : j < 4) (hN : rl_N b s) (hP : rl_P j b s (f0, a1, a2, a3, a4, a5, a6, a7, a8, a9, a10, a11, a12, a13, a14)) (hp : post 1 ()) : wL_lawOf_156 post mc ms (nI j) x3 x4 0 (nI b) kc ks f0 a1 a2 a3 a4 a5 a6 a7 a8 a9 a10 a11 a12 a13 a14 := by
  have n2 : b ≤ 30 := hN.2.1
  have k : wL_lawOf_172 post mc ms (nI j) x3 x4 0 (nI (min b 20)) kc ks f0 a1 a2 a3 a4 a5 a6 a7 a8 a9 a10 a11 a12 a13 a14 := rl_172 hj hN hP hp
  unfold wL_lawOf_156
  refine pk_le b 20 (fun z => ?_) (fun z => ?_)
  · rw [show min b 20 = b by omega] at k; exact k
  · rw [show min b 20 = 20 by omega] at k; exact k
/-! ===== set ===== -/
theorem rl_N10 : rl_N 10 1 := ⟨by decide, by decide, by decide, by decide⟩
theorem rl_127b (hB : rl_B x0) (h0 : f0 = 0) (hp : post 1 ()) : wL_lawOf_127 post mc ms x0 x1 x2 x3 x4 1 x8 (-1) kc ks f0 a1 a2 a3 a4 a5 a6 a7 a8 a9 a10 a11 a12 a13 a14 := by
  unfold wL_lawOf_127
  refine rl_set1 hB (br_t rfl (br_f (by decide) ?_))
  unfold wL_lawOf_156
  exact br_t (by decide) (rl_172b hB h0 hp)
theorem rl_127k (hj : j < 4) (hk : x1 < 0 ∨ ¬ x1 ≤ 2) (hP : rl_P j 10 1 (f0, a1, a2, a3, a4, a5, a6, a7, a8, a9, a10, a11, a12, a13, a14)) (hp : post 1 ()) : wL_lawOf_127 post mc ms (nI j) x1 x2 x3 x4 0 x8 (-2) kc ks f0 a1 a2 a3 a4 a5 a6 a7 a8 a9 a10 a11 a12 a13 a14 := by
  unfold wL_lawOf_127
  exact rl_set2 hj hk (br_t rfl (br_f (by decide) (rl_156 (b := 10) (s := 1) hj rl_N10 hP hp)))
theorem rl_127n (hj : j < 4) (g1 : ¬ x1 < 0) (g2 : x1 ≤ 2) (ho : ¬ rl_ok x2) (hP : rl_P j 10 1 (f0, a1, a2, a3, a4, a5, a6, a7, a8, a9, a10, a11, a12, a13, a14)) (hp : post 1 ()) : wL_lawOf_127 post mc ms (nI j) x1 x2 x3 x4 0 x8 (-3) kc ks f0 a1 a2 a3 a4 a5 a6 a7 a8 a9 a10 a11 a12 a13 a14 := by
  unfold wL_lawOf_127
  exact rl_set3 hj g1 g2 ho (br_t rfl (br_f (by decide) (rl_156 (b := 10) (s := 1) hj rl_N10 hP hp)))
theorem rl_rng {x M : Int32} {n : Nat} (hM : M.toInt = n) (hn : n < 2 ^ 31) (h1 : ¬ x < 1) (h2 : ¬ M < x) : ∃ k : Nat, 1 ≤ k ∧ k ≤ n ∧ x = nI k := by
  have e0 : (0 : Int32).toInt = 0 := by decide
  have e1 : (1 : Int32).toInt = 1 := by decide
  have g0 : ¬ x < 0 := by
    intro z
    apply h1
    rw [Int32.lt_iff_toInt_lt] at z ⊢
    omega
  have g2 : x ≤ M := by
    rw [Int32.le_iff_toInt_le]
    rw [Int32.lt_iff_toInt_lt] at h2
    omega
  obtain ⟨k, hk, e⟩ := nI_of2 hM g0 g2
  refine ⟨k, ?_, hk, e⟩
  rcases Nat.lt_or_ge k 1 with z | z
  · exact absurd (by rw [e]; exact nI_lt (b := 1) z (by decide)) h1
  · exact z
theorem rl_127o (hj : j < 4) (g1 : ¬ x1 < 0) (g2 : x1 ≤ 2) (ho : rl_ok x2) (h8 : x8 = (x2 >>> ((3 : Int32) &&& 31)) &&& 31) (h0 : f0 = 0) (hp : post 1 ()) : wL_lawOf_127 post mc ms (nI j) x1 x2 x3 x4 0 x8 0 kc ks f0 a1 a2 a3 a4 a5 a6 a7 a8 a9 a10 a11 a12 a13 a14 := by
  have hb := rl_rng (n := 30) (by decide) (by decide) ho.2.2.1 ho.2.2.2.1
  have hs : ∃ k : Nat, 1 ≤ k ∧ k ≤ 10 ∧ (x2 >>> ((8 : Int32) &&& 31)) &&& 15 = nI k := rl_rng (M := 10) (n := 10) (by decide) (by decide) ho.2.2.2.2.1 (by
    have g := ho.2.2.2.2.2
    rw [Int32.le_iff_toInt_le] at g
    rw [Int32.lt_iff_toInt_lt]
    omega)
  obtain ⟨b, b1, b2, eb⟩ := hb
  obtain ⟨s, s1, s2, es⟩ := hs
  unfold wL_lawOf_127
  refine rl_set0 hj g1 g2 ho h0 eb es (fun u' hP' => ?_)
  obtain ⟨f0', b1, b2, b3, b4, b5, b6, b7, b8, b9, b10, b11, b12, b13, b14⟩ := u'
  refine br_t rfl (br_t rfl ?_)
  rw [h8, eb]
  exact rl_156 hj ⟨by omega, by omega, by omega, by omega⟩ hP' hp
theorem rl_91b (hB : rl_B x0) (h0 : f0 = 0) (hp : post 1 ()) : wL_lawOf_91 post mc ms x0 x1 x2 x3 x4 1 x8 z0 kc ks f0 a1 a2 a3 a4 a5 a6 a7 a8 a9 a10 a11 a12 a13 a14 := by
  unfold wL_lawOf_91
  exact br_f (by decide) (rl_127b hB h0 hp)
theorem rl_91 (hj : j < 4) (hz : (z0 = 0 ∧ rl_ok x2) ∨ (z0 = 1 ∧ ¬ rl_ok x2)) (h8 : x8 = (x2 >>> ((3 : Int32) &&& 31)) &&& 31) (hP : rl_P j 10 1 (f0, a1, a2, a3, a4, a5, a6, a7, a8, a9, a10, a11, a12, a13, a14)) (hp : post 1 ()) : wL_lawOf_91 post mc ms (nI j) x1 x2 x3 x4 0 x8 z0 kc ks f0 a1 a2 a3 a4 a5 a6 a7 a8 a9 a10 a11 a12 a13 a14 := by
  unfold wL_lawOf_91
  refine br_t rfl (br_c (fun g => rl_127k hj (Or.inl g) hP hp) (fun g1 => br_c (fun g2 => ?_) (fun g => rl_127k hj (Or.inr g) hP hp)))
  rcases hz with ⟨e, ho⟩ | ⟨e, ho⟩
  · exact br_t e (rl_127o hj g1 g2 ho h8 hP.1 hp)
  · subst e
    exact br_f (by decide) (rl_127n hj g1 g2 ho hP hp)
theorem rl_23b (hB : rl_B x0) (h0 : f0 = 0) (hp : post 1 ()) : wL_lawOf_23 post mc ms x0 x1 x2 x3 x4 1 kc ks f0 a1 a2 a3 a4 a5 a6 a7 a8 a9 a10 a11 a12 a13 a14 := by
  have k : ∀ x8 z0 : Int32, wL_lawOf_91 post mc ms x0 x1 x2 x3 x4 1 x8 z0 kc ks f0 a1 a2 a3 a4 a5 a6 a7 a8 a9 a10 a11 a12 a13 a14 := fun _ _ => rl_91b hB h0 hp
  unfold wL_lawOf_23
  exact fun _ _ x8 _ _ _ => br_c (fun _ => k x8 1) (fun _ => br_c (fun _ => k x8 1) (fun _ => br_c (fun _ => k x8 1) (fun _ => br_c (fun _ => k x8 1) (fun _ => br_c (fun _ => k x8 1) (fun _ => br_c (fun _ => k x8 0) (fun _ => k x8 1))))))
theorem rl_23 (hj : j < 4) (hP : rl_P j 10 1 (f0, a1, a2, a3, a4, a5, a6, a7, a8, a9, a10, a11, a12, a13, a14)) (hp : post 1 ()) : wL_lawOf_23 post mc ms (nI j) x1 x2 x3 x4 0 kc ks f0 a1 a2 a3 a4 a5 a6 a7 a8 a9 a10 a11 a12 a13 a14 := by
  have k : ∀ x8 : Int32, x8 = (x2 >>> ((3 : Int32) &&& 31)) &&& 31 → ¬ rl_ok x2 → wL_lawOf_91 post mc ms (nI j) x1 x2 x3 x4 0 x8 1 kc ks f0 a1 a2 a3 a4 a5 a6 a7 a8 a9 a10 a11 a12 a13 a14 := fun x8 e ho => rl_91 hj (Or.inr ⟨rfl, ho⟩) e hP hp
  unfold wL_lawOf_23
  intro x7 e7 x8 e8 x9 e9
  refine br_c (fun g => k x8 e8 (fun o => ?_)) (fun g1 => br_c (fun g => k x8 e8 (fun o => ?_)) (fun g2 => br_c (fun g => k x8 e8 (fun o => ?_)) (fun g3 => br_c (fun g => k x8 e8 (fun o => ?_)) (fun g4 => br_c (fun g => k x8 e8 (fun o => ?_)) (fun g5 => br_c (fun g6 => rl_91 hj (Or.inl ⟨rfl, ?_⟩) e8 hP hp) (fun g => k x8 e8 (fun o => ?_)))))))
  · rw [e7] at g; exact o.1 g
  · rw [e7] at g; exact o.2.1 g
  · rw [e8] at g; exact o.2.2.1 g
  · rw [e8] at g; exact o.2.2.2.1 g
  · rw [e9] at g; exact o.2.2.2.2.1 g
  · rw [e7] at g1 g2
    rw [e8] at g3 g4
    rw [e9] at g5 g6
    exact ⟨g1, g2, g3, g4, g5, g6⟩
  · rw [e9] at g; exact g o.2.2.2.2.2
end LAW
/-! ===== the law ===== -/
theorem rl_n34 {x : Int32} (h : ¬ x ≤ 3) : ¬ x < 4 := by
  rw [Int32.le_iff_toInt_le] at h
  rw [Int32.lt_iff_toInt_lt]
  have e3 : (3 : Int32).toInt = 3 := by decide
  have e4 : (4 : Int32).toInt = 4 := by decide
  omega
theorem rl_lawOf {post : Int32 → St0 → Prop} (hp : post 1 ()) (p0 p1 p2 p3 p4 : Int32) : wpL_lawOf post 15 319 () p0 p1 p2 p3 p4 := by
  unfold wpL_lawOf
  refine ⟨by omega, by omega, 14, 304, by omega, by omega, rl_init (by omega) (by omega) (fun u' h0 hP => ?_)⟩
  obtain ⟨f0, a1, a2, a3, a4, a5, a6, a7, a8, a9, a10, a11, a12, a13, a14⟩ := u'
  refine br_c (fun g => rl_23b (Or.inl g) h0 hp) (fun g1 => br_c (fun g2 => ?_) (fun g => rl_23b (Or.inr (rl_n34 g)) h0 hp))
  obtain ⟨j, hj, e⟩ := nI_of2 (n := 3) (by decide) g1 g2
  subst e
  exact rl_23 (show j < 4 by omega) (hP j (by omega)) hp
theorem rl_cell {post : Int32 → Prop} {L : Nat} {xs : Nat → Int32} {u : St0} (hL : L ≤ 5) (k : Nat) (hk : k < 5) (H : ∀ x : Int32, post x) : wpL_cellAt post L xs u (nI k) :=
  pk_le L k (fun _ => H _) (fun z => ⟨vp_in_nI z (by omega), H _⟩)
theorem i_vc (xs : Nat → Int32) (L : Nat) (hL : L ≤ 5) : wpL_law (fun r => r = 1) L xs := by
  unfold wpL_law
  exact rl_cell hL 0 (by omega) (fun r1 => rl_cell hL 1 (by omega) (fun r2 => rl_cell hL 2 (by omega) (fun r3 => rl_cell hL 3 (by omega) (fun r4 => rl_cell hL 4 (by omega) (fun r5 => ⟨15, 319, by omega, by omega, rl_lawOf rfl r1 r2 r3 r4 r5⟩)))))
end
