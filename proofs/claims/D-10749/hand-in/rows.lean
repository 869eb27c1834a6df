section
/-- the check value of sector j while it holds 0 -/
def il_ck (j : Nat) : Int32 := (((0 : Int32) ^^^ 1431655765) * 1540483477) + (nI j * 668265263)
/-- not a sector's number, as the class and the law ask for it -/
def il_out (x : Int32) : Prop := x < 0 ∨ (¬ x < 0 ∧ ¬ x < 12 ∧ 11 < x)
theorem il_00 : (0 : Int32) + 0 = 0 := by decide
theorem il_07 : (0 : Int32) &&& 7 = 0 := by decide
theorem il_17 : (1 : Int32) &&& 7 = 1 := by decide
theorem il_cl1 : (1 : Int32).toNatClampNeg = 1 := by decide
theorem il_inv : (1540483477 : Int32) * (-442820163) = 1 := by decide
/-- the factor is odd: different contents have different check values -/
theorem il_odd {x y s : Int32} (h : (x ^^^ 1431655765) * 1540483477 + s = (y ^^^ 1431655765) * 1540483477 + s) : x = y := by
  have h1 : (x ^^^ 1431655765) * 1540483477 = (y ^^^ 1431655765) * 1540483477 := (Int32.add_left_inj s).mp h
  have e : ∀ z : Int32, z * 1540483477 * (-442820163) = z := fun z => by rw [Int32.mul_assoc, il_inv, Int32.mul_one]
  have h2 : (x ^^^ 1431655765) = (y ^^^ 1431655765) := (e _).symm.trans ((congrArg (fun t => t * (-442820163)) h1).trans (e _))
  have e2 : ∀ z : Int32, z ^^^ 1431655765 ^^^ 1431655765 = z := fun z => by rw [Int32.xor_assoc, Int32.xor_self, Int32.xor_zero]
  exact (e2 _).symm.trans ((congrArg (fun t => t ^^^ 1431655765) h2).trans (e2 _))
/-- a sum is never its own complement -/
theorem il_not (s : Int32) : ¬ s = s ^^^ (-1) := fun h => by
  have h1 : s ^^^ s = s ^^^ (s ^^^ (-1)) := congrArg (fun t => s ^^^ t) h
  rw [← Int32.xor_assoc, Int32.xor_self, Int32.zero_xor] at h1
  exact absurd h1 (by decide)
theorem il_ix (x : Int32) : il_out x ∨ ∃ j : Nat, j < 12 ∧ x = nI j := by
  rcases pk_ix x (n := 12) (by decide) with h | h | h
  · exact Or.inl (Or.inl h)
  · by_cases z : x < 0
    · exact Or.inl (Or.inl z)
    · have h' : (12 : Int32) ≤ x := h
      rw [Int32.le_iff_toInt_le, show (12 : Int32).toInt = 12 by decide] at h'
      refine Or.inl (Or.inr ⟨z, ?_, ?_⟩)
      · rw [Int32.lt_iff_toInt_lt, show (12 : Int32).toInt = 12 by decide]
        omega
      · rw [Int32.lt_iff_toInt_lt, show (11 : Int32).toInt = 11 by decide]
        omega
  · exact Or.inr h
theorem il_in {j : Nat} (hj : j < 12) : ¬ nI j < 0 ∧ nI j < 12 ∧ ¬ 11 < nI j :=
  ⟨nI_pos (by omega), nI_lt (b := 12) hj (by decide), nI_nlt (a := 11) (b := j) (by omega) (by decide)⟩
theorem il_ne {x : Int32} {j : Nat} (hj : j < 12) (h : il_out x) : ¬ nI j = x := fun e => by
  rw [← e] at h
  rcases h with h | h
  · exact (il_in hj).1 h
  · exact h.2.1 (il_in hj).2.1
theorem il_eq0 {x : Int32} (h : 0 ≤ x) (h' : x ≤ 0) : x = 0 := Int32.le_antisymm h' h
theorem il_eq1 {x : Int32} (h : ¬ x ≤ 0) (h' : x ≤ 1) : x = 1 := by
  rw [Int32.le_iff_toInt_le, show (0 : Int32).toInt = 0 by decide] at h
  rw [Int32.le_iff_toInt_le, show (1 : Int32).toInt = 1 by decide] at h'
  refine Int32.toInt_inj.mp ?_
  rw [show (1 : Int32).toInt = 1 by decide]
  omega
theorem il_pos {x : Int32} (h : ¬ x ≤ 0) : 0 ≤ x ∧ 0 < x := by
  rw [Int32.le_iff_toInt_le, show (0 : Int32).toInt = 0 by decide] at h
  rw [Int32.le_iff_toInt_le, Int32.lt_iff_toInt_lt, show (0 : Int32).toInt = 0 by decide]
  omega
theorem il_npos {x : Int32} (h : x ≤ 0) : ¬ 0 < x := by
  rw [Int32.le_iff_toInt_le, show (0 : Int32).toInt = 0 by decide] at h
  rw [Int32.lt_iff_toInt_lt, show (0 : Int32).toInt = 0 by decide]
  omega
theorem il_fill {f s : Nat → Int32} {i k : Nat} {x : Int32} (hk : k = i) (h : ∀ j, j < i → s j = f j) (hx : x = f i) : ∀ j, j < i + 1 → upd s k x j = f j := by
  intro j hj
  rw [hk]
  by_cases e : j = i
  · rw [e, pk_us, hx]
  · rw [pk_un e]
    exact h j (by omega)
end
section
section
variable {hf ns w mk : Int32} {a1 a2 a3 a4 a5 a6 a7 a8 a9 a10 : Nat → Int32}
/-! the constructor -/
theorem il_i111 {post : St2 → Prop} {mc ms kc ks : Nat} (H : ∀ b3 : Nat → Int32, (∀ j, j < 8 → b3 j = -1) → post (0, 0, 0, 0, a1, a2, b3, a4, a5, a6, a7, a8, a9, a10)) :
    ∃ n, wX_init_111 post mc ms kc ks 0 0 0 0 n 0 a1 a2 a3 a4 a5 a6 a7 a8 a9 a10 :=
  pk_loop (fun n i s => wX_init_111 post mc ms kc ks 0 0 0 0 n (nI i) a1 a2 s a4 a5 a6 a7 a8 a9 a10) (fun i s => ∀ j, j < i → s j = -1) 8 0 a3 (by omega) (fun j hj => absurd hj (by omega))
    (fun n s h => pk_le 8 8 (fun _ => H s h) (fun z => absurd z (by omega)))
    (fun n i s hi h hw => pk_le 8 i (fun z => absurd z (by omega)) (fun _ => ⟨pk_in i 8 hi, nm_e (nm_r (nI_1 i) (hw _ (il_fill (f := fun _ => -1) (nI_clamp (by omega)) h rfl)))⟩))
theorem il_i86 {post : St2 → Prop} {mc ms kc ks : Nat} (H : ∀ b2 b3 : Nat → Int32, (∀ j, j < 12 → b2 j = il_ck j) → (∀ j, j < 8 → b3 j = -1) → post (0, 0, 0, 0, a1, b2, b3, a4, a5, a6, a7, a8, a9, a10)) :
    ∃ n, wX_init_86 post mc ms kc ks 0 0 0 0 n 0 a1 a2 a3 a4 a5 a6 a7 a8 a9 a10 :=
  pk_loop (fun n i s => wX_init_86 post mc ms kc ks 0 0 0 0 n (nI i) a1 s a3 a4 a5 a6 a7 a8 a9 a10) (fun i s => ∀ j, j < i → s j = il_ck j) 12 0 a2 (by omega) (fun j hj => absurd hj (by omega))
    (fun n s h => pk_le 12 12 (fun _ => il_i111 (fun b3 h3 => H s b3 h h3)) (fun z => absurd z (by omega)))
    (fun n i s hi h hw => pk_le 12 i (fun z => absurd z (by omega)) (fun _ => ⟨pk_in i 12 hi, nm_e (nm_r (nI_1 i) (hw _ (il_fill (f := il_ck) (nI_clamp (by omega)) h rfl)))⟩))
theorem il_init {post : St2 → Prop} (H : ∀ b2 b3 : Nat → Int32, (∀ j, j < 12 → b2 j = il_ck j) → (∀ j, j < 8 → b3 j = -1) → post (0, 0, 0, 0, fun _ => 0, b2, b3, fun _ => 0, fun _ => 0, fun _ => 0, fun _ => 0, fun _ => 0, fun _ => 0, fun _ => 0)) :
    wpX_init post 10 184 (0, 0, 0, 0) :=
  ⟨by decide, by decide, by decide, by decide, by decide, by decide, by decide, by decide, by decide, by decide, by decide, by decide, by decide, by decide, by decide, by decide, by decide, by decide, by decide, by decide, il_i86 H⟩
/-! bad, write -/
theorem il_bad1 {post : Int32 → Prop} {x : Int32} (h : il_out x) (hp : post 1) : wpX_bad post () x := by
  rcases h with h | h
  · exact br_t h hp
  · exact br_f h.1 (br_f h.2.1 hp)
theorem il_bad0 {post : Int32 → Prop} {j : Nat} (hj : j < 12) (hp : post 0) : wpX_bad post () (nI j) :=
  br_f (il_in hj).1 (br_t (il_in hj).2.1 hp)
theorem il_w0 {post : Int32 → St2 → Prop} {x v : Int32} (h : il_out x) (hp : post (-1) (hf, ns, w, mk, a1, a2, a3, a4, a5, a6, a7, a8, a9, a10)) : wpX_write post (hf, ns, w, mk, a1, a2, a3, a4, a5, a6, a7, a8, a9, a10) x v := by
  unfold wpX_write
  dsimp only
  exact il_bad1 h (br_f (by decide) hp)
theorem il_w1 {post : Int32 → St2 → Prop} {j : Nat} {v : Int32} (hj : j < 12) (hp : post 1 (hf, ns, 1, mk, a1, a2, a3, a4, a5, a6, a7, a8, upd a9 0 (nI j), upd a10 0 v)) : wpX_write post (hf, ns, 0, mk, a1, a2, a3, a4, a5, a6, a7, a8, a9, a10) (nI j) v := by
  unfold wpX_write
  dsimp only
  exact il_bad0 hj (br_t rfl (br_t (by decide) ⟨pk_in 0 20 (by decide), nm_r (e' := upd a9 0 (nI j)) (by rw [sb_cl0]) ⟨pk_in 0 20 (by decide), nm_r (e' := upd a10 0 v) (by rw [sb_cl0]) (nm_r (e' := 1) (by decide) hp)⟩⟩))
/-! damage -/
theorem il_copy {post : St2 → Prop} (hp : post (0, 0, w, mk, a1, a2, a3, a4, a5, a6, a7, a8, a9, a10)) : wpX_copyHome post (0, 0, w, mk, a1, a2, a3, a4, a5, a6, a7, a8, a9, a10) :=
  ⟨0 + 1, br_t (by decide) hp⟩
theorem il_dam0 {post : Int32 → Prop} {j : Nat} (hj : j < 12) (h1 : a1 j = 0) (h2 : a2 j = il_ck j) (hp : post 0) : wpX_isDamaged post (hf, ns, w, mk, a1, a2, a3, a4, a5, a6, a7, a8, a9, a10) (nI j) := by
  refine ⟨vp_in_nI hj (by decide), vp_in_nI hj (by decide), br_t ?_ hp⟩
  rw [nI_clamp (show j < 2 ^ 31 by omega), h1]
  exact h2
theorem il_dam1 {post : Int32 → Prop} {j : Nat} (hj : j < 12) (h1 : ¬ a1 j = 0) (h2 : a2 j = il_ck j) (hp : post 1) : wpX_isDamaged post (hf, ns, w, mk, a1, a2, a3, a4, a5, a6, a7, a8, a9, a10) (nI j) := by
  refine ⟨vp_in_nI hj (by decide), vp_in_nI hj (by decide), br_f ?_ hp⟩
  rw [nI_clamp (show j < 2 ^ 31 by omega), h2]
  unfold il_ck
  exact fun e => h1 (il_odd e).symm
theorem il_d0 {post : Int32 → St2 → Prop} {x b : Int32} (h : il_out x) (hp : post (-1) (hf, ns, w, mk, a1, a2, a3, a4, a5, a6, a7, a8, a9, a10)) : wpX_damage post (hf, ns, w, mk, a1, a2, a3, a4, a5, a6, a7, a8, a9, a10) x b := by
  unfold wpX_damage
  dsimp only
  exact il_bad1 h (br_f (by decide) hp)
theorem il_d1 {post : Int32 → St2 → Prop} {j : Nat} {b : Int32} (hj : j < 12) (h1 : a1 j = 0) (h2 : a2 j = il_ck j)
    (H0 : b = 0 → post 0 (0, 0, w, mk, upd a1 j (0 ^^^ b), a2, a3, a4, a5, a6, a7, a8, a9, a10)) (H1 : ¬ b = 0 → post 1 (0, 0, w, mk, upd a1 j (0 ^^^ b), a2, a3, a4, a5, a6, a7, a8, a9, a10)) :
    wpX_damage post (0, 0, w, mk, a1, a2, a3, a4, a5, a6, a7, a8, a9, a10) (nI j) b := by
  unfold wpX_damage
  dsimp only
  refine il_bad0 hj (br_t rfl (il_copy ?_))
  dsimp only
  exact il_dam0 hj h1 h2 (br_t rfl ⟨vp_in_nI hj (by decide), vp_in_nI hj (by decide), nm_r (e' := upd a1 j (0 ^^^ b)) (by rw [nI_clamp (show j < 2 ^ 31 by omega), h1]) (br_t rfl ⟨H0, H1⟩)⟩)
/-! reads -/
theorem il_nw0 {post : Int32 → Prop} {x : Int32} (hp : post (-1)) : wpX_newestWaiting post (hf, ns, 0, mk, a1, a2, a3, a4, a5, a6, a7, a8, a9, a10) x := by
  unfold wpX_newestWaiting
  dsimp only
  exact nm_r (e' := -1) (by decide) ⟨0 + 1, br_t (by decide) hp⟩
theorem il_nw1 {post : Int32 → Prop} {x : Int32} (h : a9 0 = x) (hp : post 0) : wpX_newestWaiting post (hf, ns, 1, mk, a1, a2, a3, a4, a5, a6, a7, a8, a9, a10) x := by
  unfold wpX_newestWaiting
  dsimp only
  exact nm_r (e' := 0) (by decide) ⟨0 + 1, br_f (by decide) ⟨pk_in 0 20 (by decide), br_t (by rw [sb_cl0]; exact h) hp⟩⟩
theorem il_nw2 {post : Int32 → Prop} {x : Int32} (h : ¬ a9 0 = x) (hp : post (-1)) : wpX_newestWaiting post (hf, ns, 1, mk, a1, a2, a3, a4, a5, a6, a7, a8, a9, a10) x := by
  unfold wpX_newestWaiting
  dsimp only
  exact nm_r (e' := 0) (by decide) ⟨0 + 1 + 1, br_f (by decide) ⟨pk_in 0 20 (by decide), br_f (by rw [sb_cl0]; exact h) (nm_r (e' := -1) (by decide) (br_t (by decide) hp))⟩⟩
theorem il_nj {post : Int32 → Prop} {x : Int32} (hp : post (-1)) : wpX_newestJournaled post (0, 0, w, mk, a1, a2, a3, a4, a5, a6, a7, a8, a9, a10) x :=
  ⟨0 + 1, br_t (by decide) hp⟩
theorem il_dg0 {post : Int32 → Prop} {j : Nat} (hj : j < 12) (h1 : a1 j = 0) (h2 : a2 j = il_ck j) (hp : post 1) : wpX_durableGood post (0, 0, w, mk, a1, a2, a3, a4, a5, a6, a7, a8, a9, a10) (nI j) := by
  unfold wpX_durableGood
  dsimp only
  exact il_nj (br_t (by decide) (il_dam0 hj h1 h2 (br_t rfl hp)))
theorem il_dg1 {post : Int32 → Prop} {j : Nat} (hj : j < 12) (h1 : ¬ a1 j = 0) (h2 : a2 j = il_ck j) (hp : post 0) : wpX_durableGood post (0, 0, w, mk, a1, a2, a3, a4, a5, a6, a7, a8, a9, a10) (nI j) := by
  unfold wpX_durableGood
  dsimp only
  exact il_nj (br_t (by decide) (il_dam1 hj h1 h2 (br_f (by decide) hp)))
theorem il_r0 {post : Int32 → Prop} {x : Int32} (h : il_out x) (hp : post 0) : wpX_readable post (hf, ns, w, mk, a1, a2, a3, a4, a5, a6, a7, a8, a9, a10) x := by
  unfold wpX_readable
  dsimp only
  exact il_bad1 h (br_f (by decide) hp)
/-- readable of a sector's number: N says what is pending, K what is durable -/
theorem il_r1 {post : Int32 → Prop} {j : Nat} {c : Prop} (hj : j < 12) (N : ∀ q : Int32 → Prop, (c → q 0) → (¬ c → q (-1)) → wpX_newestWaiting q (0, 0, w, mk, a1, a2, a3, a4, a5, a6, a7, a8, a9, a10) (nI j)) (h2 : a2 j = il_ck j)
    (H1 : c ∨ a1 j = 0 → post 1) (H0 : ¬ (c ∨ a1 j = 0) → post 0) : wpX_readable post (0, 0, w, mk, a1, a2, a3, a4, a5, a6, a7, a8, a9, a10) (nI j) := by
  unfold wpX_readable
  dsimp only
  refine il_bad0 hj (br_t rfl (N _ (fun hc => br_t (by decide) (H1 (Or.inl hc))) (fun hc => br_f (by decide) ?_)))
  by_cases h : a1 j = 0
  · exact il_dg0 hj h h2 (br_f (by decide) (H1 (Or.inr h)))
  · exact il_dg1 hj h h2 (br_t rfl (H0 (fun z => z.elim hc h)))
theorem il_rd0 {post : Int32 → Prop} {x : Int32} (h : il_out x) (hp : post 0) : wpX_read post (hf, ns, w, mk, a1, a2, a3, a4, a5, a6, a7, a8, a9, a10) x := by
  unfold wpX_read
  dsimp only
  exact il_bad1 h (br_f (by decide) hp)
theorem il_rd1 {post : Int32 → Prop} {j : Nat} (hj : j < 12) (h : a9 0 = nI j) (hp : post (a10 0)) : wpX_read post (hf, ns, 1, mk, a1, a2, a3, a4, a5, a6, a7, a8, a9, a10) (nI j) := by
  unfold wpX_read
  dsimp only
  exact il_bad0 hj (br_t rfl (il_nw1 h (br_f (by decide) ⟨pk_in 0 20 (by decide), by rw [sb_cl0]; exact hp⟩)))
end
end
section
/-- the sum of a section of one entry in slot 0 -/
def il_S (b3 b6 b7 b8 : Nat → Int32) : Int32 := (((b3 0 * 31 + 1) * 31 + b6 0) * 31 + b7 0) * 31 + b8 0
/-- the check value that is journaled with the pending write -/
def il_e (b9 b10 : Nat → Int32) : Int32 := ((b10 0 ^^^ 1431655765) * 1540483477) + (b9 0 * 668265263)
section
variable {hf ns w mk : Int32} {a1 a2 a3 a4 a5 a6 a7 a8 a9 a10 : Nat → Int32}
theorem il_k0 {post : Int32 → Prop} {x : Int32} (hp : post 0) : wpX_clampWaiting post (hf, ns, 0, mk, a1, a2, a3, a4, a5, a6, a7, a8, a9, a10) x := by
  unfold wpX_clampWaiting
  dsimp only
  refine br_c (fun h0 => br_c (fun h1 => ?_) (fun _ => hp)) (fun _ => hp)
  rw [il_eq0 h0 h1]
  exact hp
theorem il_k1 {post : Int32 → Prop} {x : Int32} (h : x ≤ 0) (hp : post 0) : wpX_clampWaiting post (hf, ns, 1, mk, a1, a2, a3, a4, a5, a6, a7, a8, a9, a10) x := by
  unfold wpX_clampWaiting
  dsimp only
  refine br_c (fun h0 => ?_) (fun _ => hp)
  rw [il_eq0 h0 h]
  exact br_t (by decide) hp
theorem il_k2 {post : Int32 → Prop} {x : Int32} (h : ¬ x ≤ 0) (hp : post 1) : wpX_clampWaiting post (hf, ns, 1, mk, a1, a2, a3, a4, a5, a6, a7, a8, a9, a10) x := by
  unfold wpX_clampWaiting
  dsimp only
  refine br_t (il_pos h).1 (br_c (fun h1 => ?_) (fun _ => hp))
  rw [il_eq1 h h1]
  exact hp
/-- a section of one entry, the first pending write, goes to slot 0 -/
theorem il_fs {post : Int32 → St2 → Prop} (hp : post 0 (0, 0, w, mk, a1, a2, upd a3 0 0, upd a4 0 1, a5, upd a6 0 (a9 0), upd a7 0 (a10 0), upd a8 0 (il_e a9 a10), a9, a10)) :
    wpX_fillSlot post (0, 0, w, mk, a1, a2, a3, a4, a5, a6, a7, a8, a9, a10) 0 1 := by
  unfold wpX_fillSlot
  dsimp only
  refine br_t (by decide) ?_
  unfold wX_fillSlot_18
  refine nm_r (e' := 0) (by decide) ⟨pk_in 0 8 (by decide), nm_r (e' := upd a3 0 0) (by rw [sb_cl0]) ⟨pk_in 0 8 (by decide), nm_r (e' := upd a4 0 1) (by rw [sb_cl0]) ⟨0 + 1 + 1, ?_⟩⟩⟩
  refine br_f (by decide) (nm_r (e' := 0) (by decide) ⟨pk_in 0 20 (by decide) (by decide), pk_in 0 32 (by decide), nm_r (e' := upd a6 0 (a9 0)) (by rw [il_00, sb_cl0]) ⟨pk_in 0 20 (by decide) (by decide), pk_in 0 32 (by decide), nm_r (e' := upd a7 0 (a10 0)) (by rw [il_00, sb_cl0]) ⟨pk_in 0 20 (by decide) (by decide), pk_in 0 20 (by decide) (by decide), ?_⟩⟩⟩)
  unfold wpX_checkOf
  refine ⟨pk_in 0 32 (by decide), nm_r (e' := upd a8 0 (il_e a9 a10)) (by rw [il_00, sb_cl0]; rfl) (nm_r (e' := 1) (by decide) (br_t (by decide) hp))⟩
theorem il_sm {post : Int32 → Prop} (h4 : a4 0 = 1) (hp : post (il_S a3 a6 a7 a8)) : wpX_sumOf post (hf, ns, w, mk, a1, a2, a3, a4, a5, a6, a7, a8, a9, a10) 0 := by
  unfold wpX_sumOf
  dsimp only
  refine ⟨pk_in 0 8 (by decide), pk_in 0 8 (by decide), nm_r (e' := a3 0 * 31 + 1) (by rw [sb_cl0, h4]) (nm_r (e' := 0) (by decide) ⟨0 + 1 + 1, ?_⟩)⟩
  refine ⟨pk_in 0 8 (by decide), br_f (by rw [sb_cl0, h4]; decide) ⟨pk_in 0 32 (by decide), nm_e ⟨pk_in 0 32 (by decide), nm_e ⟨pk_in 0 32 (by decide), nm_r (e' := il_S a3 a6 a7 a8) (by rw [sb_cl0]; rfl) (nm_r (e' := 1) (by decide) ⟨pk_in 0 8 (by decide), br_t (by rw [sb_cl0, h4]; decide) hp⟩)⟩⟩⟩⟩
theorem il_c0 {post : St2 → Prop} (hp : post (hf, ns, w, mk, a1, a2, a3, a4, a5, a6, a7, a8, a9, a10)) : wpX_commit post (hf, ns, w, mk, a1, a2, a3, a4, a5, a6, a7, a8, a9, a10) 0 :=
  ⟨0 + 1, br_t (by decide) (nm_r (e' := mk) (Int32.add_zero mk) hp)⟩
theorem il_c1 {post : St2 → Prop} (hp : post (0, 1, w, 1, a1, a2, upd a3 0 0, upd a4 0 1, upd a5 0 (il_S (upd a3 0 0) (upd a6 0 (a9 0)) (upd a7 0 (a10 0)) (upd a8 0 (il_e a9 a10))), upd a6 0 (a9 0), upd a7 0 (a10 0), upd a8 0 (il_e a9 a10), a9, a10)) :
    wpX_commit post (0, 0, w, 0, a1, a2, a3, a4, a5, a6, a7, a8, a9, a10) 1 := by
  refine ⟨0 + 1 + 1, br_f (by decide) (br_f (by decide) ?_)⟩
  rw [show (1 : Int32) - 0 = 1 by decide]
  unfold wX_commit_21
  refine il_fs ?_
  dsimp only
  refine il_sm pk_us ⟨pk_in 0 8 (by decide), nm_r (e' := upd a5 0 (il_S (upd a3 0 0) (upd a6 0 (a9 0)) (upd a7 0 (a10 0)) (upd a8 0 (il_e a9 a10)))) (by rw [sb_cl0]) (nm_r (e' := 1) (by decide) (nm_r (e' := 4) (by decide) ?_))⟩
  exact br_t (by decide) (nm_r (e' := 1) (by decide) hp)
theorem il_t {post : St2 → Prop} (hp : post (0, 0, w, mk, a1, a2, upd a3 0 0, upd a4 0 1, upd a5 0 (il_S (upd a3 0 0) (upd a6 0 (a9 0)) (upd a7 0 (a10 0)) (upd a8 0 (il_e a9 a10)) ^^^ (-1)), upd a6 0 (a9 0), upd a7 0 (a10 0), upd a8 0 (il_e a9 a10), a9, a10)) :
    wpX_tear post (0, 0, w, mk, a1, a2, a3, a4, a5, a6, a7, a8, a9, a10) 0 1 := by
  unfold wpX_tear
  dsimp only
  refine br_f (by decide) ?_
  unfold wX_tear_10
  refine il_fs ?_
  dsimp only
  exact il_sm pk_us ⟨pk_in 0 8 (by decide), nm_r (by rw [sb_cl0]) hp⟩
theorem il_wn {post : Int32 → Prop} {x y : Int32} (hx : vp_in x 8) (h : ¬ a3 x.toNatClampNeg = y) (hp : post 0) : wpX_whole post (hf, ns, w, mk, a1, a2, a3, a4, a5, a6, a7, a8, a9, a10) x y :=
  ⟨hx, br_f h hp⟩
theorem il_ws {post : Int32 → Prop} (h3 : a3 0 = 0) (h4 : a4 0 = 1) (hp : (il_S a3 a6 a7 a8 = a5 0 → post 1) ∧ (¬ il_S a3 a6 a7 a8 = a5 0 → post 0)) : wpX_whole post (hf, ns, w, mk, a1, a2, a3, a4, a5, a6, a7, a8, a9, a10) 0 0 := by
  refine ⟨pk_in 0 8 (by decide), br_t (by rw [sb_cl0]; exact h3) ⟨pk_in 0 8 (by decide), br_f (by rw [sb_cl0, h4]; decide) ⟨pk_in 0 8 (by decide), br_t (by rw [sb_cl0, h4]; decide) (il_sm h4 ⟨pk_in 0 8 (by decide), ?_⟩)⟩⟩⟩
  rw [sb_cl0]
  exact hp
theorem il_ap {post : St2 → Prop} {j : Nat} (hj : j < 12) (h4 : a4 0 = 1) (h6 : a6 0 = nI j) (hp : ∀ b1 b2 : Nat → Int32, post (hf, ns, w, mk, b1, b2, a3, a4, a5, a6, a7, a8, a9, a10)) : wpX_applySlot post (hf, ns, w, mk, a1, a2, a3, a4, a5, a6, a7, a8, a9, a10) 0 := by
  have hi : vp_in (a6 (0 : Int32).toNatClampNeg) 12 := by
    rw [sb_cl0, h6]
    exact vp_in_nI hj (by decide)
  unfold wpX_applySlot
  dsimp only
  refine nm_r (e' := 0) (by decide) ⟨0 + 1 + 1, pk_in 0 8 (by decide), br_f (by rw [sb_cl0, h4]; decide) ⟨pk_in 0 32 (by decide), pk_in 0 32 (by decide), hi, nm_e ⟨pk_in 0 32 (by decide), pk_in 0 32 (by decide), hi, nm_e (nm_r (e' := 1) (by decide) ⟨pk_in 0 8 (by decide), br_t (by rw [sb_cl0, h4]; decide) (hp _ _)⟩)⟩⟩⟩
/-- slot 0 holds no whole section: the journal ends at once -/
theorem il_p0 {post : St2 → Prop} (W : ∀ q : Int32 → Prop, q 0 → wpX_whole q (0, ns, w, mk, a1, a2, a3, a4, a5, a6, a7, a8, a9, a10) 0 0) (hp : post (0, 0, w, mk, a1, a2, a3, a4, a5, a6, a7, a8, a9, a10)) : wpX_replay post (0, ns, w, mk, a1, a2, a3, a4, a5, a6, a7, a8, a9, a10) := by
  refine ⟨0 + 1 + 1, br_f (by decide) (br_f (by decide) ?_)⟩
  rw [il_07]
  exact W _ (br_t rfl (nm_r (e' := 1) (by decide) (br_f (by decide) (br_t rfl hp))))
/-- slot 0 holds a whole section, slot 1 none -/
theorem il_p1 {post : St2 → Prop} {j : Nat} (hj : j < 12) (W : ∀ q : Int32 → Prop, q 1 → wpX_whole q (0, ns, w, mk, a1, a2, a3, a4, a5, a6, a7, a8, a9, a10) 0 0) (h4 : a4 0 = 1) (h6 : a6 0 = nI j) (h3 : a3 1 = -1)
    (hp : ∀ b1 b2 : Nat → Int32, post (1, 1, w, mk, b1, b2, a3, a4, a5, a6, a7, a8, a9, a10)) : wpX_replay post (0, ns, w, mk, a1, a2, a3, a4, a5, a6, a7, a8, a9, a10) := by
  refine ⟨0 + 1 + 1 + 1, br_f (by decide) (br_f (by decide) ?_)⟩
  rw [il_07]
  refine W _ (br_f (by decide) (il_ap hj h4 h6 (fun b1 b2 => ?_)))
  dsimp only
  refine nm_r (e' := 1) (by decide) (nm_r (e' := 1) (by decide) (br_f (by decide) (br_f (by decide) ?_)))
  rw [il_17]
  exact il_wn (pk_in 1 8 (by decide)) (by rw [il_cl1, h3]; decide) (br_t rfl (nm_r (e' := 2) (by decide) (br_f (by decide) (br_t rfl (hp b1 b2)))))
/-! crash: nothing pending; one pending write lost; one pending write kept -/
theorem il_x0 {post : Int32 → St2 → Prop} {x : Int32} (h3 : a3 0 = -1) (hp : post 0 (0, 0, 0, 0, a1, a2, a3, a4, a5, a6, a7, a8, a9, a10)) : wpX_crash post (0, 0, 0, 0, a1, a2, a3, a4, a5, a6, a7, a8, a9, a10) x := by
  unfold wpX_crash
  dsimp only
  refine il_k0 (il_c0 ?_)
  dsimp only
  refine nm_r (e' := 0) (by decide) (br_t (by decide) ?_)
  unfold wX_crash_28
  exact il_p0 (fun q hq => il_wn (pk_in 0 8 (by decide)) (by rw [sb_cl0, h3]; decide) hq) hp
theorem il_x1 {post : Int32 → St2 → Prop} {x : Int32} (hx : x ≤ 0) (hp : ∀ b3 b4 b5 b6 b7 b8 : Nat → Int32, post 1 (0, 0, 0, 0, a1, a2, b3, b4, b5, b6, b7, b8, a9, a10)) : wpX_crash post (0, 0, 1, 0, a1, a2, a3, a4, a5, a6, a7, a8, a9, a10) x := by
  unfold wpX_crash
  dsimp only
  refine il_k1 hx (il_c0 ?_)
  dsimp only
  refine nm_r (e' := 1) (by decide) (br_f (by decide) (il_t ?_))
  dsimp only
  unfold wX_crash_28
  exact il_p0 (fun q hq => il_ws pk_us pk_us (br_f (by rw [pk_us]; exact il_not _) hq)) (hp _ _ _ _ _ _)
theorem il_x2 {post : Int32 → St2 → Prop} {x : Int32} {j : Nat} (hj : j < 12) (hx : ¬ x ≤ 0) (h9 : a9 0 = nI j) (h3 : a3 1 = -1) (hp : ∀ b1 b2 b3 b4 b5 b6 b7 b8 : Nat → Int32, post 0 (1, 1, 0, 1, b1, b2, b3, b4, b5, b6, b7, b8, a9, a10)) : wpX_crash post (0, 0, 1, 0, a1, a2, a3, a4, a5, a6, a7, a8, a9, a10) x := by
  unfold wpX_crash
  dsimp only
  refine il_k2 hx (il_c1 ?_)
  dsimp only
  refine nm_r (e' := 0) (by decide) (br_t (by decide) ?_)
  unfold wX_crash_28
  exact il_p1 hj (fun q hq => il_ws pk_us pk_us (br_t (by rw [pk_us]) hq)) pk_us (by rw [pk_us]; exact h9) (by rw [pk_un (by decide)]; exact h3) (fun b1 b2 => hp b1 b2 _ _ _ _ _ _)
end
end
section
section
variable {post : Int32 → St0 → Prop} {mc ms kc ks : Nat} {a1 a2 a3 a4 a5 a6 a7 a8 a9 a10 : Nat → Int32}
theorem il_193 {z : Int32} (hP : post 1 ()) : wL_lawOf_193 post mc ms z z kc ks := br_t rfl hP
/-- from the crash on: no sector was written -/
theorem il_141o {x z : Int32} (hP : post 1 ()) (h3 : a3 0 = -1) : wL_lawOf_141 post mc ms x 0 z z kc ks 0 0 0 0 a1 a2 a3 a4 a5 a6 a7 a8 a9 a10 := by
  refine br_t rfl (il_x0 h3 ?_)
  dsimp only
  exact br_t rfl (br_t rfl (br_t rfl (il_193 hP)))
/-- from the crash on: one write is pending -/
theorem il_141i {x z : Int32} {j : Nat} (hP : post 1 ()) (hj : j < 12) (h9 : a9 0 = nI j) (h3 : a3 1 = -1) : wL_lawOf_141 post mc ms x 1 z z kc ks 0 0 1 0 a1 a2 a3 a4 a5 a6 a7 a8 a9 a10 := by
  by_cases hx : x ≤ 0
  · refine br_t rfl (il_x1 hx (fun b3 b4 b5 b6 b7 b8 => ?_))
    dsimp only
    exact br_f (by decide) (br_f (il_npos hx) (br_t rfl (br_f (by decide) (br_t hx (il_193 hP)))))
  · refine br_t rfl (il_x2 hj hx h9 h3 (fun b1 b2 b3 b4 b5 b6 b7 b8 => ?_))
    dsimp only
    exact br_f (by decide) (br_t (il_pos hx).2 (br_t rfl (br_f (by decide) (br_f hx (il_193 hP)))))
theorem il_120o {x0 x1 x4 z : Int32} (hP : post 1 ()) (h0 : il_out x0) (h3 : a3 0 = -1) : wL_lawOf_120 post mc ms x0 x1 x4 0 z z kc ks 0 0 0 0 a1 a2 a3 a4 a5 a6 a7 a8 a9 a10 := by
  refine br_t rfl (il_rd0 h0 ?_)
  exact br_t rfl (il_141o hP h3)
theorem il_120i {x1 x4 z : Int32} {j : Nat} (hP : post 1 ()) (hj : j < 12) (h9 : a9 0 = nI j) (h10 : a10 0 = x1) (h3 : a3 1 = -1) : wL_lawOf_120 post mc ms (nI j) x1 x4 1 z z kc ks 0 0 1 0 a1 a2 a3 a4 a5 a6 a7 a8 a9 a10 := by
  refine br_t rfl (il_rd1 hj h9 ?_)
  rw [h10]
  exact br_f (by decide) (il_141i hP hj h9 h3)
/-- the other place is no sector -/
theorem il_90o {w x0 x1 x2 x3 x4 x6 z : Int32} (h2 : il_out x2) (K : ∀ y : Int32, wL_lawOf_120 post mc ms x0 x1 x4 x6 y y kc ks 0 0 w 0 a1 a2 a3 a4 a5 a6 a7 a8 a9 a10) : wL_lawOf_90 post mc ms x0 x1 x2 x3 x4 x6 0 z z kc ks 0 0 w 0 a1 a2 a3 a4 a5 a6 a7 a8 a9 a10 := by
  refine br_t rfl (il_r0 h2 ?_)
  exact br_t rfl (K 0)
theorem il_90i {w x0 x1 x3 x4 x6 z : Int32} {k : Nat} (hk : k < 12) (N : ∀ q : Int32 → Prop, (nI k = x0 → q 0) → (¬ nI k = x0 → q (-1)) → wpX_newestWaiting q (0, 0, w, 0, a1, a2, a3, a4, a5, a6, a7, a8, a9, a10) (nI k)) (h1 : a1 k = x3) (h2 : a2 k = il_ck k)
    (K : ∀ y : Int32, wL_lawOf_120 post mc ms x0 x1 x4 x6 y y kc ks 0 0 w 0 a1 a2 a3 a4 a5 a6 a7 a8 a9 a10) : wL_lawOf_90 post mc ms x0 x1 (nI k) x3 x4 x6 1 z z kc ks 0 0 w 0 a1 a2 a3 a4 a5 a6 a7 a8 a9 a10 := by
  refine br_t rfl (il_r1 hk N h2 (fun h => br_f (by decide) (br_c (fun _ => K 1) (fun g => br_t (h.resolve_right (by rw [h1]; exact g)) (K 1)))) (fun h => br_f (by decide) (br_f (fun g => h (Or.inr (h1.trans g))) (br_f (fun g => h (Or.inl g)) (K 0)))))
theorem il_60o {w x0 x1 x2 x3 x4 x6 z : Int32} (h2 : il_out x2) (K : ∀ y : Int32, wL_lawOf_120 post mc ms x0 x1 x4 x6 y y kc ks 0 0 w 0 a1 a2 a3 a4 a5 a6 a7 a8 a9 a10) : wL_lawOf_60 post mc ms x0 x1 x2 x3 x4 x6 0 z z kc ks 0 0 w 0 a1 a2 a3 a4 a5 a6 a7 a8 a9 a10 := by
  refine br_t rfl (il_d0 h2 ?_)
  exact br_t rfl (il_90o h2 K)
theorem il_60i {w x0 x1 x3 x4 x6 z : Int32} {k : Nat} (hk : k < 12) (N : ∀ (b1 : Nat → Int32) (q : Int32 → Prop), (nI k = x0 → q 0) → (¬ nI k = x0 → q (-1)) → wpX_newestWaiting q (0, 0, w, 0, b1, a2, a3, a4, a5, a6, a7, a8, a9, a10) (nI k)) (h1 : a1 k = 0) (h2 : a2 k = il_ck k)
    (K : ∀ (b1 : Nat → Int32) (y : Int32), wL_lawOf_120 post mc ms x0 x1 x4 x6 y y kc ks 0 0 w 0 b1 a2 a3 a4 a5 a6 a7 a8 a9 a10) : wL_lawOf_60 post mc ms x0 x1 (nI k) x3 x4 x6 1 z z kc ks 0 0 w 0 a1 a2 a3 a4 a5 a6 a7 a8 a9 a10 := by
  have hu : upd a1 k (0 ^^^ x3) k = x3 := by rw [pk_us, Int32.zero_xor]
  refine br_t rfl (il_d1 hk h1 h2 (fun h => ?_) (fun h => ?_))
  · exact br_f (by decide) (br_t h (il_90i hk (N _) hu h2 (K _)))
  · exact br_f (by decide) (br_f h (il_90i hk (N _) hu h2 (K _)))
/-- from the write on; x6, x7: whether sector and other are sectors -/
theorem il_41o {x0 x1 x2 x3 x4 : Int32} (hP : post 1 ()) (h0 : il_out x0) (h1 : ∀ k, k < 12 → a1 k = 0) (h2 : ∀ k, k < 12 → a2 k = il_ck k) (h3 : ∀ k, k < 8 → a3 k = -1) :
    wL_lawOf_24 post mc ms x0 x1 x2 x3 x4 0 kc ks 0 0 0 0 a1 a2 a3 a4 a5 a6 a7 a8 a9 a10 := by
  have K : ∀ (b1 : Nat → Int32) (y : Int32), wL_lawOf_120 post mc ms x0 x1 x4 0 y y kc ks 0 0 0 0 b1 a2 a3 a4 a5 a6 a7 a8 a9 a10 := fun b1 y => il_120o hP h0 (h3 0 (by decide))
  rcases il_ix x2 with h | ⟨k, hk, rfl⟩
  · have E : wL_lawOf_41 post mc ms x0 x1 x2 x3 x4 0 0 kc ks 0 0 0 0 a1 a2 a3 a4 a5 a6 a7 a8 a9 a10 := il_w0 h0 (br_t rfl (il_60o h (K a1)))
    rcases h with h | h
    · exact br_t h E
    · exact br_f h.1 (br_t h.2.2 E)
  · have E : wL_lawOf_41 post mc ms x0 x1 (nI k) x3 x4 0 1 kc ks 0 0 0 0 a1 a2 a3 a4 a5 a6 a7 a8 a9 a10 := il_w0 h0 (br_t rfl (il_60i hk (fun b1 q _ hn => il_nw0 (hn (il_ne hk h0))) (h1 k hk) (h2 k hk) K))
    exact br_f (il_in hk).1 (br_f (il_in hk).2.2 E)
theorem il_41i {j : Nat} {x1 x2 x3 x4 : Int32} (hP : post 1 ()) (hj : j < 12) (h1 : ∀ k, k < 12 → a1 k = 0) (h2 : ∀ k, k < 12 → a2 k = il_ck k) (h3 : ∀ k, k < 8 → a3 k = -1) :
    wL_lawOf_24 post mc ms (nI j) x1 x2 x3 x4 1 kc ks 0 0 0 0 a1 a2 a3 a4 a5 a6 a7 a8 a9 a10 := by
  have K : ∀ (b1 : Nat → Int32) (y : Int32), wL_lawOf_120 post mc ms (nI j) x1 x4 1 y y kc ks 0 0 1 0 b1 a2 a3 a4 a5 a6 a7 a8 (upd a9 0 (nI j)) (upd a10 0 x1) := fun b1 y => il_120i hP hj pk_us pk_us (h3 1 (by decide))
  rcases il_ix x2 with h | ⟨k, hk, rfl⟩
  · have E : wL_lawOf_41 post mc ms (nI j) x1 x2 x3 x4 1 0 kc ks 0 0 0 0 a1 a2 a3 a4 a5 a6 a7 a8 a9 a10 := il_w1 hj (br_f (by decide) (il_60o h (K a1)))
    rcases h with h | h
    · exact br_t h E
    · exact br_f h.1 (br_t h.2.2 E)
  · have N : ∀ (b1 : Nat → Int32) (q : Int32 → Prop), (nI k = nI j → q 0) → (¬ nI k = nI j → q (-1)) → wpX_newestWaiting q (0, 0, 1, 0, b1, a2, a3, a4, a5, a6, a7, a8, upd a9 0 (nI j), upd a10 0 x1) (nI k) := by
      intro b1 q q0 q1
      by_cases e : nI k = nI j
      · exact il_nw1 (by rw [pk_us, e]) (q0 e)
      · exact il_nw2 (by rw [pk_us]; exact fun z => e z.symm) (q1 e)
    have E : wL_lawOf_41 post mc ms (nI j) x1 (nI k) x3 x4 1 1 kc ks 0 0 0 0 a1 a2 a3 a4 a5 a6 a7 a8 a9 a10 := il_w1 hj (br_f (by decide) (il_60i hk N (h1 k hk) (h2 k hk) K))
    exact br_f (il_in hk).1 (br_f (il_in hk).2.2 E)
end
theorem il_law {post : Int32 → St0 → Prop} (hP : post 1 ()) (p0 p1 p2 p3 p4 : Int32) : wpL_lawOf post 122 1936 () p0 p1 p2 p3 p4 := by
  refine ⟨by decide, by decide, 10, 184, by decide, by decide, il_init (fun b2 b3 h2 h3 => ?_)⟩
  dsimp only
  rcases il_ix p0 with h | ⟨j, hj, rfl⟩
  · have E := fun (kc ks : Nat) => il_41o (post := post) (mc := 122) (ms := 1936) (kc := kc) (ks := ks) (x1 := p1) (x2 := p2) (x3 := p3) (x4 := p4) (a4 := fun _ => 0) (a5 := fun _ => 0) (a6 := fun _ => 0) (a7 := fun _ => 0) (a8 := fun _ => 0) (a9 := fun _ => 0) (a10 := fun _ => 0) hP h (a1 := fun _ => 0) (fun _ _ => rfl) h2 h3
    have h' := h
    rcases h' with h' | h'
    · exact br_t h' (E _ _)
    · exact br_f h'.1 (br_t h'.2.2 (E _ _))
  · exact br_f (il_in hj).1 (br_f (il_in hj).2.2 (il_41i hP hj (fun _ _ => rfl) h2 h3))
theorem il_cell {post : Int32 → Prop} {L : Nat} {xs : Nat → Int32} {i : Nat} {x : Int32} (hL : L ≤ 5) (hi : i < 5) (hx : x = nI i) (hp : ∀ r : Int32, post r) : wpL_cellAt post L xs () x := by
  subst hx
  exact pk_le L i (fun _ => hp 0) (fun z => ⟨vp_in_nI z (by omega), hp _⟩)
theorem i_vc (xs : Nat → Int32) (L : Nat) (hL : L ≤ 5) : wpL_law (fun r => r = 1) L xs := by
  unfold wpL_law
  exact il_cell hL (i := 0) (by decide) rfl (fun r1 => il_cell hL (i := 1) (by decide) rfl (fun r2 => il_cell hL (i := 2) (by decide) rfl (fun r3 => il_cell hL (i := 3) (by decide) rfl (fun r4 => il_cell hL (i := 4) (by decide) rfl (fun r5 => ⟨122, 1936, by decide, by decide, il_law (post := fun r _ => r = 1) rfl r1 r2 r3 r4 r5⟩)))))
end
