section
/-- what the statement of kind kd makes of two numbers -/
def ds_due (kd p q : Int32) : Int32 := if kd = 3 then p + q else if kd = 4 then p * q else if p = q then 1 else 0
theorem ds_b : ∀ i, i < 12 → (nI i).toInt8.toInt32 = nI i := by decide
theorem ds_fill {f s : Nat → Int32} {i k : Nat} {x : Int32} (hk : k = i) (h : ∀ j, j < i → s j = f j) (hx : x = f i) : ∀ j, j < i + 1 → upd s k x j = f j := by
  intro j hj
  rw [hk]
  by_cases e : j = i
  · rw [e, pk_us, hx]
  · rw [pk_un e]
    exact h j (by omega)
theorem ds_fillL {f s : Nat → Int64} {i k : Nat} {x : Int64} (hk : k = i) (h : ∀ j, j < i → s j = f j) (hx : x = f i) : ∀ j, j < i + 1 → vp_updL s k x j = f j := by
  intro j hj
  rw [hk]
  by_cases e : j = i
  · rw [e, pk_uLs, hx]
  · rw [pk_uLn e]
    exact h j (by omega)
section
variable {sc jc br : Int32} {su rd : Int64} {a1 a2 a3 a4 a5 a6 a7 a8 a9 a10 a12 a13 : Nat → Int32} {a11 : Nat → Int64}
theorem ds_restart {post : St2 → Prop} (H : ∀ (b5 b6 b7 : Nat → Int32) (b11 : Nat → Int64), (∀ k, k < 12 → b5 k = nI k) → (∀ k, k < 12 → b7 k = 0) → (∀ k, k < 12 → b11 k = 0) → post (0, 0, 0, 0, 0, a1, a2, a3, a4, b5, b6, b7, a8, a9, a10, b11, a12, a13)) :
    wpX_restart post (sc, su, jc, rd, br, a1, a2, a3, a4, a5, a6, a7, a8, a9, a10, a11, a12, a13) :=
  pk_loop (fun n i (s : (Nat → Int32) × (Nat → Int32) × (Nat → Int32) × (Nat → Int64)) => wX_restart_27 post 0 0 0 0 0 n (nI i) a1 a2 a3 a4 s.1 s.2.1 s.2.2.1 a8 a9 a10 s.2.2.2 a12 a13)
    (fun i s => (∀ k, k < i → s.1 k = nI k) ∧ (∀ k, k < i → s.2.2.1 k = 0) ∧ (∀ k, k < i → s.2.2.2 k = 0)) 12 0 (a5, a6, a7, a11) (by omega)
    ⟨fun j hj => absurd hj (by omega), fun j hj => absurd hj (by omega), fun j hj => absurd hj (by omega)⟩
    (fun n s h => pk_le 12 12 (fun _ => H _ _ _ _ h.1 h.2.1 h.2.2) (fun z => absurd z (by omega)))
    (fun n i s hi h hw => pk_le 12 i (fun z => absurd z (by omega)) (fun _ => ⟨pk_in i 12 hi, nm_e ⟨pk_in i 12 hi, nm_e ⟨pk_in i 12 hi, nm_e ⟨pk_in i 12 hi, nm_e (nm_r (nI_1 i)
      (hw (upd s.1 (nI i).toNatClampNeg (nI i).toInt8.toInt32, upd s.2.1 (nI i).toNatClampNeg 1, upd s.2.2.1 (nI i).toNatClampNeg 0, vp_updL s.2.2.2 (nI i).toNatClampNeg 0)
        ⟨ds_fill (f := nI) (nI_clamp (by omega)) h.1 (ds_b i hi), ds_fill (f := fun _ => 0) (nI_clamp (by omega)) h.2.1 rfl, ds_fillL (f := fun _ => 0) (nI_clamp (by omega)) h.2.2 rfl⟩))⟩⟩⟩⟩))
theorem ds_init {post : St2 → Prop} {mc ms : Nat} (hm : 13 ≤ mc) (hs : 324 ≤ ms) (H : ∀ (a1 a2 a3 a4 b5 b6 b7 a8 a9 a10 a12 a13 : Nat → Int32) (b11 : Nat → Int64), (∀ k, k < 12 → b5 k = nI k) → (∀ k, k < 12 → b7 k = 0) → (∀ k, k < 12 → b11 k = 0) → post (0, 0, 0, 0, 0, a1, a2, a3, a4, b5, b6, b7, a8, a9, a10, b11, a12, a13)) :
    wpX_init post mc ms (sc, su, jc, rd, br) := by
  refine ⟨by omega, by omega, by omega, by omega, by omega, by omega, by omega, by omega, by omega, by omega, by omega, by omega, by omega, by omega, by omega, by omega, by omega, by omega, by omega, by omega, by omega, by omega, by omega, by omega, by omega, by omega, ?_⟩
  exact ds_restart (fun b5 b6 b7 b11 h1 h2 h3 => H _ _ _ _ b5 b6 b7 _ _ _ _ _ b11 h1 h2 h3)
theorem ds_isv {post : Int32 → Prop} {x : Int32} (k : Nat) (hk : k < 12) (H : post 1) (hx : x = nI k := by rfl) :
    wpX_isVariable post (sc, su, jc, rd, br, a1, a2, a3, a4, a5, a6, a7, a8, a9, a10, a11, a12, a13) x := by
  subst hx
  exact br_f (nI_pos (by omega)) (br_f (nI_nlt (a := 11) (b := k) (by omega) (by omega)) H)
theorem ds_head {post : Int32 → St2 → Prop} {x : Int32} (k : Nat) (hk : k < 12) (h : a5 k = nI k) (H : post (nI k) (sc, su, jc, rd, br, a1, a2, a3, a4, a5, a6, a7, a8, a9, a10, a11, a12, a13)) (hx : x = nI k := by rfl) :
    wpX_head post (sc, su, jc, rd, br, a1, a2, a3, a4, a5, a6, a7, a8, a9, a10, a11, a12, a13) x := by
  subst hx
  refine ⟨1, pk_in k 12 hk, br_t ?_ H⟩
  rw [nI_clamp (by omega)]
  exact h
theorem ds_head2 {post : Int32 → St2 → Prop} {x : Int32} (k : Nat) (hk : k < 12) (h : a5 k = nI k) (H : post (nI k) (sc, su, jc, rd, br, a1, a2, a3, a4, a5, a6, a7, a8, a9, a10, a11, a12, a13)) (hx : x = nI k := by rfl) :
    wpX_head_2 post (sc, su, jc, rd, br, a1, a2, a3, a4, a5, a6, a7, a8, a9, a10, a11, a12, a13) x := by
  subst hx
  refine ⟨1, pk_in k 12 hk, br_t ?_ H⟩
  rw [nI_clamp (by omega)]
  exact h
theorem ds_wake {post : St2 → Prop} {x : Int32} (k : Nat) (hk : k < 12) (H : post (sc, su, jc, rd ||| (a11 k &&& su), br, a1, a2, a3, a4, a5, a6, a7, a8, a9, a10, vp_updL a11 k 0, a12, a13)) (hx : x = nI k := by rfl) :
    wpX_wake post (sc, su, jc, rd, br, a1, a2, a3, a4, a5, a6, a7, a8, a9, a10, a11, a12, a13) x := by
  subst hx
  have e : (nI k).toNatClampNeg = k := nI_clamp (by omega)
  refine ⟨pk_in k 12 hk, nm_r (by rw [e]) ⟨pk_in k 12 hk, nm_r (by rw [e]) H⟩⟩
theorem ds_bindFree {post : St2 → Prop} {x v : Int32} (k : Nat) (hk : k < 12) (h5 : a5 k = nI k) (h7 : a7 k = 0) (H : post (sc, su, jc, rd ||| (a11 k &&& su), br, a1, a2, a3, a4, a5, a6, upd a7 k 1, upd a8 k v, a9, a10, vp_updL a11 k 0, a12, a13)) (hx : x = nI k := by rfl) :
    wpX_bindNumber post (sc, su, jc, rd, br, a1, a2, a3, a4, a5, a6, a7, a8, a9, a10, a11, a12, a13) x v := by
  have e : (nI k).toNatClampNeg = k := nI_clamp (by omega)
  refine ds_head k hk h5 ?_ hx
  exact ⟨pk_in k 12 hk, br_t (by rw [e]; exact h7) ⟨pk_in k 12 hk, nm_r (by rw [e]) ⟨pk_in k 12 hk, nm_r (by rw [e]) (ds_wake k hk H)⟩⟩⟩
theorem ds_bindSame {post : St2 → Prop} {x v : Int32} (k : Nat) (hk : k < 12) (h5 : a5 k = nI k) (h7 : a7 k = 1) (h8 : a8 k = v) (H : post (sc, su, jc, rd, br, a1, a2, a3, a4, a5, a6, a7, a8, a9, a10, a11, a12, a13)) (hx : x = nI k := by rfl) :
    wpX_bindNumber post (sc, su, jc, rd, br, a1, a2, a3, a4, a5, a6, a7, a8, a9, a10, a11, a12, a13) x v := by
  have e : (nI k).toNatClampNeg = k := nI_clamp (by omega)
  refine ds_head k hk h5 ?_ hx
  exact ⟨pk_in k 12 hk, br_f (by rw [e, h7]; decide) ⟨pk_in k 12 hk, br_f (by rw [e, h7]; decide) ⟨pk_in k 12 hk, br_t (by rw [e]; exact h8) H⟩⟩⟩
theorem ds_bindClash {post : St2 → Prop} {x v : Int32} (k : Nat) (hk : k < 12) (h5 : a5 k = nI k) (h7 : a7 k = 1) (h8 : ¬ a8 k = v) (H : post (sc, su, jc, rd, 1, a1, a2, a3, a4, a5, a6, a7, a8, a9, a10, a11, a12, a13)) (hx : x = nI k := by rfl) :
    wpX_bindNumber post (sc, su, jc, rd, br, a1, a2, a3, a4, a5, a6, a7, a8, a9, a10, a11, a12, a13) x v := by
  have e : (nI k).toNatClampNeg = k := nI_clamp (by omega)
  refine ds_head k hk h5 ?_ hx
  exact ⟨pk_in k 12 hk, br_f (by rw [e, h7]; decide) ⟨pk_in k 12 hk, br_f (by rw [e, h7]; decide) ⟨pk_in k 12 hk, br_f (by rw [e]; exact h8) H⟩⟩⟩
theorem ds_comp {post : Int32 → Prop} {kd p q : Int32} (H : post (ds_due kd p q)) :
    wpX_computed post (sc, su, jc, rd, br, a1, a2, a3, a4, a5, a6, a7, a8, a9, a10, a11, a12, a13) kd p q := by
  unfold ds_due at H
  refine br_c (fun h => ?_) (fun h => br_c (fun g => ?_) (fun g => br_c (fun f => ?_) (fun f => ?_)))
  · rw [if_pos h] at H
    exact H
  · rw [if_neg h, if_pos g] at H
    exact H
  · rw [if_neg h, if_neg g, if_pos f] at H
    exact H
  · rw [if_neg h, if_neg g, if_neg f] at H
    exact H
end
end
section
section
variable {sc jc br : Int32} {su rd : Int64} {a1 a2 a3 a4 a5 a6 a7 a8 a9 a10 a12 a13 : Nat → Int32} {a11 : Nat → Int64}
theorem ds_low {post : Int32 → Prop} (H : post 0) : wpX_lowestReady post (sc, su, jc, 1, br, a1, a2, a3, a4, a5, a6, a7, a8, a9, a10, a11, a12, a13) :=
  ⟨1, br_f (by decide) (br_f (by decide) H)⟩
/-- statement 0 waits on its first source -/
theorem ds_waitY {post : St2 → Prop} (y z : Nat) (hy : y < 12) (hz : z < 12) (h1 : ¬ a1 0 = 5) (h2 : ¬ a1 0 = 6) (h3 : a3 0 = nI y) (h4 : a4 0 = nI z) (h5y : a5 y = nI y) (h5z : a5 z = nI z) (h7 : a7 y = 0)
    (H : post (sc, su, jc, rd, br, a1, a2, a3, a4, a5, a6, a7, a8, a9, a10, vp_updL a11 y (a11 y ||| 1), a12, a13)) :
    wpX_tryStatement post (sc, su, jc, rd, br, a1, a2, a3, a4, a5, a6, a7, a8, a9, a10, a11, a12, a13) 0 := by
  have e : (nI y).toNatClampNeg = y := nI_clamp (by omega)
  have i0 : vp_in 0 40 := pk_in 0 40 (by omega)
  have iy : vp_in (nI y) 12 := pk_in y 12 hy
  have e7 : a7 (nI y).toNatClampNeg = 0 := by rw [e]; exact h7
  refine ⟨i0, ds_head y hy h5y ⟨i0, ds_head z hz h5z ⟨i0, br_f h1 ⟨i0, br_f h2 (br_t rfl ⟨iy, br_t e7 ⟨iy, br_t e7 ⟨iy, iy, nm_r ?_ H⟩⟩⟩)⟩⟩ h4⟩ h3⟩
  rw [e]
  rfl
/-- statement 0 waits on its second source -/
theorem ds_waitZ {post : St2 → Prop} (y z : Nat) (hy : y < 12) (hz : z < 12) (h1 : ¬ a1 0 = 5) (h2 : ¬ a1 0 = 6) (h3 : a3 0 = nI y) (h4 : a4 0 = nI z) (h5y : a5 y = nI y) (h5z : a5 z = nI z) (h7 : a7 y = 1) (h7z : a7 z = 0)
    (H : post (sc, su, jc, rd, br, a1, a2, a3, a4, a5, a6, a7, a8, a9, a10, vp_updL a11 z (a11 z ||| 1), a12, a13)) :
    wpX_tryStatement post (sc, su, jc, rd, br, a1, a2, a3, a4, a5, a6, a7, a8, a9, a10, a11, a12, a13) 0 := by
  have e : (nI y).toNatClampNeg = y := nI_clamp (by omega)
  have ez : (nI z).toNatClampNeg = z := nI_clamp (by omega)
  have i0 : vp_in 0 40 := pk_in 0 40 (by omega)
  have iy : vp_in (nI y) 12 := pk_in y 12 hy
  have iz : vp_in (nI z) 12 := pk_in z 12 hz
  have e7 : ¬ a7 (nI y).toNatClampNeg = 0 := by rw [e, h7]; decide
  have e7z : a7 (nI z).toNatClampNeg = 0 := by rw [ez]; exact h7z
  refine ⟨i0, ds_head y hy h5y ⟨i0, ds_head z hz h5z ⟨i0, br_f h1 ⟨i0, br_f h2 (br_t rfl ⟨iy, br_f e7 ⟨iz, br_t e7z ⟨iy, br_f e7 ⟨iz, iz, nm_r ?_ H⟩⟩⟩⟩)⟩⟩ h4⟩ h3⟩
  rw [ez]
  rfl
/-- statement 0 runs: both sources are numbers, its target is free -/
theorem ds_run {post : St2 → Prop} (y z t : Nat) (hy : y < 12) (hz : z < 12) (ht : t < 12) (h1 : ¬ a1 0 = 5) (h1' : ¬ a1 0 = 6) (h2 : a2 0 = nI t) (h3 : a3 0 = nI y) (h4 : a4 0 = nI z) (h5y : a5 y = nI y) (h5z : a5 z = nI z) (h5t : a5 t = nI t) (h7 : a7 y = 1) (h7z : a7 z = 1) (h7t : a7 t = 0)
    (H : post (sc, 0, jc, rd, br, a1, a2, a3, a4, a5, a6, upd a7 t 1, upd a8 t (ds_due (a1 0) (a8 y) (a8 z)), a9, a10, vp_updL a11 t 0, a12, a13)) :
    wpX_tryStatement post (sc, 1, jc, rd, br, a1, a2, a3, a4, a5, a6, a7, a8, a9, a10, a11, a12, a13) 0 := by
  have e : (nI y).toNatClampNeg = y := nI_clamp (by omega)
  have ez : (nI z).toNatClampNeg = z := nI_clamp (by omega)
  have i0 : vp_in 0 40 := pk_in 0 40 (by omega)
  have iy : vp_in (nI y) 12 := pk_in y 12 hy
  have iz : vp_in (nI z) 12 := pk_in z 12 hz
  have e7 : a7 (nI y).toNatClampNeg = 1 := by rw [e]; exact h7
  have e7z : a7 (nI z).toNatClampNeg = 1 := by rw [ez]; exact h7z
  have n7 : ¬ a7 (nI y).toNatClampNeg = 0 := by rw [e7]; decide
  have n7z : ¬ a7 (nI z).toNatClampNeg = 0 := by rw [e7z]; decide
  have er : rd ||| (a11 t &&& 0) = rd := by simp
  refine ⟨i0, ds_head y hy h5y ⟨i0, ds_head z hz h5z ⟨i0, br_f h1 ⟨i0, br_f h1' (br_t rfl ⟨iy, br_f n7 ⟨iz, br_f n7z ⟨iy, br_t e7 ⟨iz, br_t e7z (nm_r (e' := 0) (by decide) (br_t rfl ⟨i0, iy, iz, ds_comp ⟨i0, ds_bindFree t ht h5t h7t ?_ h2⟩⟩))⟩⟩⟩⟩)⟩⟩ h4⟩ h3⟩
  rw [e, ez, er]
  exact H
theorem ds_idle {post : St2 → Prop} (H : post (sc, su, 0, 0, 0, a1, a2, a3, a4, a5, a6, a7, a8, a9, a10, a11, a12, a13)) :
    wpX_work post (sc, su, 0, 0, 0, a1, a2, a3, a4, a5, a6, a7, a8, a9, a10, a11, a12, a13) :=
  ⟨1, br_t rfl (br_f (by decide) (br_t rfl H))⟩
theorem ds_brk {post : St2 → Prop} (H : post (sc, su, jc, rd, 1, a1, a2, a3, a4, a5, a6, a7, a8, a9, a10, a11, a12, a13)) :
    wpX_work post (sc, su, jc, rd, 1, a1, a2, a3, a4, a5, a6, a7, a8, a9, a10, a11, a12, a13) :=
  ⟨1, br_f (by decide) H⟩
theorem ds_once {post : St2 → Prop} {sc' : Int32} {su' : Int64} {b1 b2 b3 b4 b5 b6 b7 b8 b9 b10 b12 b13 : Nat → Int32} {b11 : Nat → Int64}
    (T : ∀ ψ : St2 → Prop, ψ (sc', su', 0, 0, 0, b1, b2, b3, b4, b5, b6, b7, b8, b9, b10, b11, b12, b13) → wpX_tryStatement ψ (sc, su, 0, 0, 0, a1, a2, a3, a4, a5, a6, a7, a8, a9, a10, a11, a12, a13) 0)
    (H : post (sc', su', 0, 0, 0, b1, b2, b3, b4, b5, b6, b7, b8, b9, b10, b11, b12, b13)) :
    wpX_work post (sc, su, 0, 1, 0, a1, a2, a3, a4, a5, a6, a7, a8, a9, a10, a11, a12, a13) :=
  ⟨2, br_t rfl (br_f (by decide) (br_f (by decide) (br_t (by decide) (ds_low (nm_r (e' := 0) (by decide) (T _ (br_t rfl (br_f (by decide) (br_t rfl H)))))))))⟩
end
end
section
section
variable {sc jc br : Int32} {su rd : Int64} {a1 a2 a3 a4 a5 a6 a7 a8 a9 a10 a12 a13 : Nat → Int32} {a11 : Nat → Int64}
/-- tell(kd, 2, 5, 9) on a fresh store: it waits on variable 5 -/
theorem ds_tellOp {post : Int32 → St2 → Prop} {kd : Int32} (hk : kd = 3 ∨ kd = 4 ∨ kd = 7) (h5 : ∀ k, k < 12 → a5 k = nI k) (h7 : a7 5 = 0) (h11 : a11 5 = 0)
    (H : post 1 (1, 1, 0, 0, 0, upd a1 0 kd, upd a2 0 2, upd a3 0 5, upd a4 0 9, a5, a6, a7, a8, a9, a10, vp_updL a11 5 1, a12, a13)) :
    wpX_tell post (0, 0, 0, 0, 0, a1, a2, a3, a4, a5, a6, a7, a8, a9, a10, a11, a12, a13) kd 2 5 9 := by
  have n0 : ¬ kd = 0 := by rcases hk with h | h | h <;> subst h <;> decide
  have n1 : ¬ kd = 1 := by rcases hk with h | h | h <;> subst h <;> decide
  have n2 : ¬ kd = 2 := by rcases hk with h | h | h <;> subst h <;> decide
  have n5 : ¬ kd = 5 := by rcases hk with h | h | h <;> subst h <;> decide
  have n6 : ¬ kd = 6 := by rcases hk with h | h | h <;> subst h <;> decide
  have g0 : ¬ kd < 0 := by rcases hk with h | h | h <;> subst h <;> decide
  have g7 : ¬ 7 < kd := by rcases hk with h | h | h <;> subst h <;> decide
  have eb : kd.toInt8.toInt32 = kd := by rcases hk with h | h | h <;> subst h <;> decide
  have e11 : a11 5 ||| 1 = 1 := by rw [h11]; decide
  have i0 : vp_in 0 40 := pk_in 0 40 (by omega)
  have T : ∀ ψ : St2 → Prop, ψ (1, 1, 0, 0, 0, upd a1 0 kd, upd a2 0 2, upd a3 0 5, upd a4 0 9, a5, a6, a7, a8, a9, a10, vp_updL a11 5 1, a12, a13) → wpX_tryStatement ψ (1, 1, 0, 0, 0, upd a1 0 kd, upd a2 0 2, upd a3 0 5, upd a4 0 9, a5, a6, a7, a8, a9, a10, a11, a12, a13) 0 :=
    fun ψ hψ => ds_waitY 5 9 (by omega) (by omega) n5 n6 rfl rfl (h5 5 (by omega)) (h5 9 (by omega)) h7 (by rw [e11]; exact hψ)
  have A : wX_tell_101 post kd 2 5 9 1 0 0 0 0 0 a1 a2 a3 a4 a5 a6 a7 a8 a9 a10 a11 a12 a13 := by
    refine nm_r (e' := 1) (by decide) ⟨i0, nm_r (e' := upd a1 0 kd) (by rw [eb]; rfl) ⟨i0, nm_r (e' := upd a2 0 2) rfl (br_f n1 (br_f n0 (br_f n2 ⟨i0, nm_r (e' := upd a3 0 5) rfl (br_f (by decide) ⟨i0, nm_r (e' := upd a4 0 9) rfl (nm_r (e' := 1) (by decide) (nm_r (e' := 1) (by decide) ?_))⟩)⟩)))⟩⟩
    exact ds_once T (br_t rfl H)
  have B : wX_tell_78 post kd 2 5 9 0 0 0 0 0 a1 a2 a3 a4 a5 a6 a7 a8 a9 a10 a11 a12 a13 :=
    br_f (by decide) (ds_isv 9 (by omega) (br_f (by decide) A))
  have C : wX_tell_57 post kd 2 5 9 0 0 0 0 0 a1 a2 a3 a4 a5 a6 a7 a8 a9 a10 a11 a12 a13 :=
    br_f n2 (br_c (fun _ => B) (fun n3 => br_c (fun _ => B) (fun n4 => br_t (by rcases hk with h | h | h; exact absurd h n3; exact absurd h n4; exact h) B)))
  exact br_t rfl (br_t (by decide) (br_f g0 (br_f g7 (ds_isv 2 (by omega) (br_f (by decide) (br_f n1 (ds_isv 5 (by omega) (br_f (by decide) C))))))))
/-- tell(INT, k, v, 0), by what binding and working make of the state -/
theorem ds_tellInt {post : Int32 → St2 → Prop} {x v r : Int32} {u2 u3 : St2} (m k : Nat) (hm : m < 40) (hk : k < 12)
    (T : ∀ ψ : St2 → Prop, ψ u2 → wpX_bindNumber ψ (nI (m + 1), su, jc, rd, 0, upd a1 m 1, upd a2 m (nI k), a3, a4, a5, a6, a7, a8, a9, a10, a11, a12, a13) x v)
    (W : ∀ ψ : St2 → Prop, ψ u3 → wpX_work ψ u2)
    (R : (u3.2.2.2.2.1 = 0 ∧ r = u3.1) ∨ (¬ u3.2.2.2.2.1 = 0 ∧ r = -3)) (H : post r u3) (hs : sc = nI m := by rfl) (hx : x = nI k := by rfl) :
    wpX_tell post (sc, su, jc, rd, 0, a1, a2, a3, a4, a5, a6, a7, a8, a9, a10, a11, a12, a13) 1 x v 0 := by
  subst hs hx
  have e : (nI m).toNatClampNeg = m := nI_clamp (by omega)
  have im : vp_in (nI m) 40 := pk_in m 40 hm
  obtain ⟨c1, c2, c3, c4, c5, d1, d2, d3, d4, d5, d6, d7, d8, d9, d10, d11, d12, d13⟩ := u2
  obtain ⟨g1, g2, g3, g4, g5, k1, k2, k3, k4, k5, k6, k7, k8, k9, k10, k11, k12, k13⟩ := u3
  have A : wX_tell_101 post 1 (nI k) v 0 0 (nI m) su jc rd 0 a1 a2 a3 a4 a5 a6 a7 a8 a9 a10 a11 a12 a13 := by
    refine nm_r (nI_1 m) ⟨im, nm_r (e' := upd a1 m 1) (by rw [e]; rfl) ⟨im, nm_r (e' := upd a2 m (nI k)) (by rw [e, ds_b k hk]) (br_t rfl ?_)⟩⟩
    refine T _ ?_
    refine W _ ?_
    rcases R with ⟨hb, hr⟩ | ⟨hb, hr⟩
    · subst hr
      exact br_t hb H
    · subst hr
      exact br_f hb H
  exact br_t rfl (br_t (nI_lt (b := 40) hm (by omega)) (br_f (by decide) (br_f (by decide) (ds_isv k hk (br_f (by decide) (br_t rfl (br_f (by decide) (br_f (by decide) (br_f (by decide) (br_f (by decide) (br_t rfl A)))))))))))
theorem ds_waiting {post : Int32 → Prop} (H : post 1) : wpX_waiting post (2, 1, jc, rd, 0, a1, a2, a3, a4, a5, a6, a7, a8, a9, a10, a11, a12, a13) :=
  br_t rfl ⟨3, br_f (by decide) (nm_r (e' := 1) (by decide) (nm_r (e' := 1) (by decide) (br_f (by decide) (nm_r (e' := 1) (by decide) (nm_r (e' := 2) (by decide) (br_t (by decide) H))))))⟩
theorem ds_value {post : Int32 → St2 → Prop} {x : Int32} (k : Nat) (hk : k < 12) (h5 : a5 k = nI k) (h7 : a7 k = 1) (H : post (a8 k) (sc, su, jc, rd, 0, a1, a2, a3, a4, a5, a6, a7, a8, a9, a10, a11, a12, a13)) (hx : x = nI k := by rfl) :
    wpX_value post (sc, su, jc, rd, 0, a1, a2, a3, a4, a5, a6, a7, a8, a9, a10, a11, a12, a13) x := by
  subst hx
  have e : (nI k).toNatClampNeg = k := nI_clamp (by omega)
  unfold wpX_value
  refine ds_isv k hk (br_f (by decide) (br_t rfl (ds_head k hk h5 ⟨pk_in k 12 hk, br_t (by rw [e]; exact h7) ⟨pk_in k 12 hk, ?_⟩⟩)))
  rw [e]
  exact H
theorem ds_value1 {post : Int32 → St2 → Prop} {x : Int32} (k : Nat) (hk : k < 12) (H : post 0 (sc, su, jc, rd, 1, a1, a2, a3, a4, a5, a6, a7, a8, a9, a10, a11, a12, a13)) (hx : x = nI k := by rfl) :
    wpX_value post (sc, su, jc, rd, 1, a1, a2, a3, a4, a5, a6, a7, a8, a9, a10, a11, a12, a13) x := by
  unfold wpX_value
  exact ds_isv k hk (br_f (by decide) (br_f (by decide) H)) hx
theorem ds_state {post : Int32 → St2 → Prop} {x : Int32} (k : Nat) (hk : k < 12) (h5 : a5 k = nI k) (H : post (a7 k) (sc, su, jc, rd, 0, a1, a2, a3, a4, a5, a6, a7, a8, a9, a10, a11, a12, a13)) (hx : x = nI k := by rfl) :
    wpX_state post (sc, su, jc, rd, 0, a1, a2, a3, a4, a5, a6, a7, a8, a9, a10, a11, a12, a13) x := by
  subst hx
  have e : (nI k).toNatClampNeg = k := nI_clamp (by omega)
  refine br_t rfl (ds_isv k hk (br_f (by decide) (ds_head2 k hk h5 ⟨pk_in k 12 hk, ?_⟩)))
  rw [e]
  exact H
theorem ds_clear {post : Int32 → St2 → Prop} (H : ∀ u, post sc u) : wpX_clear post (sc, su, jc, rd, br, a1, a2, a3, a4, a5, a6, a7, a8, a9, a10, a11, a12, a13) :=
  ds_restart (sc := sc) (su := su) (jc := jc) (rd := rd) (br := br) (fun _ _ _ _ _ _ _ => H _)
end
end
section
section
variable {a1 a2 a3 a4 a5 a6 a7 a8 a9 a10 a12 a13 : Nat → Int32} {a11 : Nat → Int64}
/-- the tail of the law behind the fourth tell -/
theorem ds_tail {post : Int32 → St0 → Prop} {mc ms kc ks : Nat} {p r br z : Int32} {su rd : Int64} {jc : Int32} (H : post 1 ())
    (h5 : a5 5 = nI 5) (h7 : a7 5 = 1) (h8 : a8 5 = p) (hz : (br = 0 ∧ z = 0) ∨ (br = 1 ∧ z = 1)) :
    wL_lawOf_193 post mc ms p z r r kc ks 4 su jc rd br a1 a2 a3 a4 a5 a6 a7 a8 a9 a10 a11 a12 a13 := by
  rcases hz with ⟨e, g⟩ | ⟨e, g⟩
  · subst e g
    exact br_t rfl ⟨by decide, br_t rfl (ds_value 5 (by omega) h5 h7 (br_t rfl (br_t h8 (ds_clear (fun _ => br_t rfl H)))))⟩
  · subst e g
    exact br_t rfl ⟨by decide, br_t rfl (ds_value1 5 (by omega) (br_f (by decide) (br_t rfl (ds_clear (fun _ => br_t rfl H)))))⟩
end
theorem ds_78 {post : Int32 → St0 → Prop} {p q n kd due z : Int32} (hk : kd = 3 ∨ kd = 4 ∨ kd = 7) (hd : due = ds_due kd p q) (hz : (n = due ∧ z = 0) ∨ (¬ n = due ∧ z = 1)) (H : post 1 ()) :
    wL_lawOf_78 post 96 1536 p q n kd due z 0 0 := by
  have n5 : ¬ kd = 5 := by rcases hk with h | h | h <;> subst h <;> decide
  have n6 : ¬ kd = 6 := by rcases hk with h | h | h <;> subst h <;> decide
  refine ⟨by omega, by omega, 13, 324, by omega, by omega, ds_init (by omega) (by omega) ?_⟩
  intro a1 a2 a3 a4 a5 a6 a7 a8 a9 a10 a12 a13 a11 h5 h7 h11
  have h52 := h5 2 (by omega)
  have h55 := h5 5 (by omega)
  have h59 := h5 9 (by omega)
  refine ds_tellOp hk h5 (h7 5 (by omega)) (h11 5 (by omega)) (br_t rfl ?_)
  -- tell(INT, 5, p): wakes the statement, which then waits on 9
  have e1 : (0 : Int64) ||| ((vp_updL a11 5 1) 5 &&& 1) = 1 := by
    show (0 : Int64) ||| (1 &&& 1) = 1
    decide
  have e2 : (vp_updL (vp_updL a11 5 1) 5 0) 9 ||| 1 = 1 := by
    show a11 9 ||| 1 = 1
    rw [h11 9 (by omega)]
    decide
  refine ds_tellInt (r := 2)
    (u2 := (2, 1, 0, 1, 0, upd (upd a1 0 kd) 1 1, upd (upd a2 0 2) 1 5, upd a3 0 5, upd a4 0 9, a5, a6, upd a7 5 1, upd a8 5 p, a9, a10, vp_updL (vp_updL a11 5 1) 5 0, a12, a13))
    (u3 := (2, 1, 0, 0, 0, upd (upd a1 0 kd) 1 1, upd (upd a2 0 2) 1 5, upd a3 0 5, upd a4 0 9, a5, a6, upd a7 5 1, upd a8 5 p, a9, a10, vp_updL (vp_updL (vp_updL a11 5 1) 5 0) 9 1, a12, a13)) 1 5 (by omega) (by omega)
    (fun ψ hψ => ds_bindFree 5 (by omega) h55 (h7 5 (by omega)) (by rw [e1]; exact hψ))
    (fun ψ hψ => ds_once (fun ψ hψ => ds_waitZ 5 9 (by omega) (by omega) n5 n6 rfl rfl h55 h59 rfl (h7 9 (by omega)) (by rw [e2]; exact hψ)) hψ)
    (Or.inl ⟨rfl, rfl⟩) (br_t rfl (ds_waiting (br_t rfl ?_)))
  -- tell(INT, 9, q): wakes the statement, which runs
  have e3 : (0 : Int64) ||| ((vp_updL (vp_updL (vp_updL a11 5 1) 5 0) 9 1) 9 &&& 1) = 1 := by
    show (0 : Int64) ||| (1 &&& 1) = 1
    decide
  have e4 : ds_due ((upd (upd (upd a1 0 kd) 1 1) 2 1) 0) ((upd (upd a8 5 p) 9 q) 5) ((upd (upd a8 5 p) 9 q) 9) = due := by
    rw [hd]
    rfl
  refine ds_tellInt (r := 3)
    (u2 := (3, 1, 0, 1, 0, upd (upd (upd a1 0 kd) 1 1) 2 1, upd (upd (upd a2 0 2) 1 5) 2 9, upd a3 0 5, upd a4 0 9, a5, a6, upd (upd a7 5 1) 9 1, upd (upd a8 5 p) 9 q, a9, a10, vp_updL (vp_updL (vp_updL (vp_updL a11 5 1) 5 0) 9 1) 9 0, a12, a13))
    (u3 := (3, 0, 0, 0, 0, upd (upd (upd a1 0 kd) 1 1) 2 1, upd (upd (upd a2 0 2) 1 5) 2 9, upd a3 0 5, upd a4 0 9, a5, a6, upd (upd (upd a7 5 1) 9 1) 2 1, upd (upd (upd a8 5 p) 9 q) 2 due, a9, a10, vp_updL (vp_updL (vp_updL (vp_updL (vp_updL a11 5 1) 5 0) 9 1) 9 0) 2 0, a12, a13)) 2 9 (by omega) (by omega)
    (fun ψ hψ => ds_bindFree 9 (by omega) h59 (h7 9 (by omega)) (by rw [e3]; exact hψ))
    (fun ψ hψ => ds_once (fun ψ hψ => ds_run 5 9 2 (by omega) (by omega) (by omega) n5 n6 rfl rfl rfl h55 h59 h52 rfl rfl (h7 2 (by omega)) (by rw [e4]; exact hψ)) hψ)
    (Or.inl ⟨rfl, rfl⟩) (br_t rfl ?_)
  refine ds_value 2 (by omega) h52 rfl (br_t rfl ?_)
  refine ds_state 2 (by omega) h52 (br_t rfl ?_)
  -- tell(INT, 2, n): the same number, or a clash
  rcases hz with ⟨g, e⟩ | ⟨g, e⟩
  · subst e
    refine ds_tellInt (r := 4)
      (u2 := (4, 0, 0, 0, 0, upd (upd (upd (upd a1 0 kd) 1 1) 2 1) 3 1, upd (upd (upd (upd a2 0 2) 1 5) 2 9) 3 2, upd a3 0 5, upd a4 0 9, a5, a6, upd (upd (upd a7 5 1) 9 1) 2 1, upd (upd (upd a8 5 p) 9 q) 2 due, a9, a10, vp_updL (vp_updL (vp_updL (vp_updL (vp_updL a11 5 1) 5 0) 9 1) 9 0) 2 0, a12, a13))
      (u3 := (4, 0, 0, 0, 0, upd (upd (upd (upd a1 0 kd) 1 1) 2 1) 3 1, upd (upd (upd (upd a2 0 2) 1 5) 2 9) 3 2, upd a3 0 5, upd a4 0 9, a5, a6, upd (upd (upd a7 5 1) 9 1) 2 1, upd (upd (upd a8 5 p) 9 q) 2 due, a9, a10, vp_updL (vp_updL (vp_updL (vp_updL (vp_updL a11 5 1) 5 0) 9 1) 9 0) 2 0, a12, a13)) 3 2 (by omega) (by omega)
      (fun ψ hψ => ds_bindSame 2 (by omega) h52 rfl g.symm hψ)
      (fun ψ hψ => ds_idle hψ)
      (Or.inl ⟨rfl, rfl⟩) (br_t rfl (ds_tail H h55 rfl rfl (Or.inl ⟨rfl, rfl⟩)))
  · subst e
    refine ds_tellInt (r := -3)
      (u2 := (4, 0, 0, 0, 1, upd (upd (upd (upd a1 0 kd) 1 1) 2 1) 3 1, upd (upd (upd (upd a2 0 2) 1 5) 2 9) 3 2, upd a3 0 5, upd a4 0 9, a5, a6, upd (upd (upd a7 5 1) 9 1) 2 1, upd (upd (upd a8 5 p) 9 q) 2 due, a9, a10, vp_updL (vp_updL (vp_updL (vp_updL (vp_updL a11 5 1) 5 0) 9 1) 9 0) 2 0, a12, a13))
      (u3 := (4, 0, 0, 0, 1, upd (upd (upd (upd a1 0 kd) 1 1) 2 1) 3 1, upd (upd (upd (upd a2 0 2) 1 5) 2 9) 3 2, upd a3 0 5, upd a4 0 9, a5, a6, upd (upd (upd a7 5 1) 9 1) 2 1, upd (upd (upd a8 5 p) 9 q) 2 due, a9, a10, vp_updL (vp_updL (vp_updL (vp_updL (vp_updL a11 5 1) 5 0) 9 1) 9 0) 2 0, a12, a13)) 3 2 (by omega) (by omega)
      (fun ψ hψ => ds_bindClash 2 (by omega) h52 rfl (fun h => g h.symm) hψ)
      (fun ψ hψ => ds_brk hψ)
      (Or.inr ⟨show ¬ (1 : Int32) = 0 by decide, rfl⟩) (br_f (by decide) (ds_tail H h55 rfl rfl (Or.inr ⟨rfl, rfl⟩)))
theorem ds_65 {post : Int32 → St0 → Prop} {p q n kd due : Int32} (hk : kd = 3 ∨ kd = 4 ∨ kd = 7) (hd : due = ds_due kd p q) (H : post 1 ()) :
    wL_lawOf_65 post 96 1536 p q n kd due 0 0 :=
  br_c (fun h => ds_78 hk hd (Or.inl ⟨h, rfl⟩) H) (fun h => ds_78 hk hd (Or.inr ⟨h, rfl⟩) H)
theorem ds_lawOf {post : Int32 → St0 → Prop} {op p q n : Int32} (H : post 1 ()) : wpL_lawOf post 96 1536 () op p q n := by
  refine ⟨by decide, ?_⟩
  intro x _
  refine br_c (fun h0 => ?_) (fun h0 => br_c (fun h1 => ?_) (fun h1 => ?_))
  · exact br_t h0 (ds_65 (Or.inl rfl) rfl H)
  · exact br_f h0 (br_t h1 (ds_65 (Or.inr (Or.inl rfl)) rfl H))
  · refine br_f h0 (br_f h1 (br_c (fun e => ds_65 (Or.inr (Or.inr rfl)) ?_ H) (fun e => ds_65 (Or.inr (Or.inr rfl)) ?_ H)))
    · unfold ds_due
      rw [if_neg (by decide), if_neg (by decide), if_pos e]
    · unfold ds_due
      rw [if_neg (by decide), if_neg (by decide), if_neg e]
theorem ds_cell {post : Int32 → Prop} {L : Nat} {xs : Nat → Int32} {x : Int32} (k : Nat) (hL : L ≤ 4) (hk : k < 4) (H : ∀ r, post r) (hx : x = nI k := by rfl) : wpL_cellAt post L xs () x := by
  subst hx
  exact pk_le L k (fun _ => H _) (fun z => ⟨pk_in k L z, H _⟩)
theorem i_vc (xs : Nat → Int32) (L : Nat) (hL : L ≤ 4) : wpL_law (fun r => r = 1) L xs :=
  ds_cell 0 hL (by omega) (fun _ => ds_cell 1 hL (by omega) (fun _ => ds_cell 2 hL (by omega) (fun _ => ds_cell 3 hL (by omega) (fun _ => ⟨96, 1536, by omega, by omega, ds_lawOf rfl⟩))))
end
