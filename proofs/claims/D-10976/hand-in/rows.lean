section
section
variable {post : St2 → Prop} {f0 f1 f2 f3 : Int32} {a1 a2 a3 : Nat → Int32} {a4 a5 a6 a7 a8 a9 a10 a11 a12 a13 a14 a15 a16 : Nat → Int64}
/-- the plane of inputs whose number has bit k set -/
def lj_pl : Nat → Int64
  | 0 => -6148914691236517206
  | 1 => -3689348814741910324
  | 2 => -1085102592571150096
  | 3 => -71777214294589696
  | 4 => -281470681808896
  | _ => -4294967296
/-- the 16 planes of the registers behind a reset -/
def lj_rg : Nat → Int64
  | 0 => -6148914691236517206
  | 1 => -3689348814741910324
  | 2 => -1085102592571150096
  | 4 => -71777214294589696
  | 5 => -281470681808896
  | 6 => -4294967296
  | _ => 0
theorem lj_ip {Q : Int64 → Prop} {x : Int32} (k : Nat) (hk : k < 6) (h : Q (lj_pl k)) (hx : x = nI k) : wpX_indexPlane Q () x := by
  subst hx
  match k, hk, h with
  | 0, _, h => exact br_f (by decide) (br_f (by decide) (br_t (by decide) h))
  | 1, _, h => exact br_f (by decide) (br_f (by decide) (br_f (by decide) (br_t (by decide) h)))
  | 2, _, h => exact br_f (by decide) (br_f (by decide) (br_f (by decide) (br_f (by decide) (br_t (by decide) h))))
  | 3, _, h => exact br_f (by decide) (br_f (by decide) (br_f (by decide) (br_f (by decide) (br_f (by decide) (br_t (by decide) h)))))
  | 4, _, h => exact br_f (by decide) (br_f (by decide) (br_f (by decide) (br_f (by decide) (br_f (by decide) (br_f (by decide) (br_t (by decide) h))))))
  | 5, _, h => exact br_f (by decide) (br_t (by decide) h)
theorem lj_fill {f s : Nat → Int64} {i k : Nat} {x : Int64} (hk : k = i) (h : ∀ j, j < i → s j = f j) (hx : x = f i) : ∀ j, j < i + 1 → vp_updL s k x j = f j := by
  intro j hj
  rw [hk]
  by_cases e : j = i
  · rw [e, pk_uLs, hx]
  · rw [pk_uLn e]
    exact h j (by omega)
theorem lj_r124 (H : ∀ s8 s9 : Nat → Int64, post (f0, f1, f2, f3, a1, a2, a3, a4, a5, a6, a7, s8, s9, a10, a11, a12, a13, a14, a15, a16)) :
    ∃ n, wX_reset_124 post f0 f1 f2 f3 n 0 a1 a2 a3 a4 a5 a6 a7 a8 a9 a10 a11 a12 a13 a14 a15 a16 :=
  pk_loop (fun n i (s : (Nat → Int64) × (Nat → Int64)) => wX_reset_124 post f0 f1 f2 f3 n (nI i) a1 a2 a3 a4 a5 a6 a7 s.1 s.2 a10 a11 a12 a13 a14 a15 a16) (fun _ _ => True) 12 0 (a8, a9) (by omega) trivial
    (fun n s _ => pk_le 12 12 (fun _ => H s.1 s.2) (fun z => absurd z (by omega)))
    (fun n i s hi _ hw => pk_le 12 i (fun z => absurd z (by omega)) (fun _ => ⟨pk_in i 12 hi, nm_e ⟨pk_in i 12 hi, nm_e (nm_r (nI_1 i) (hw (_, _) trivial))⟩⟩))
theorem lj_r97 (H : ∀ s6 s7 s8 s9 : Nat → Int64, (∀ j, j < 4 → s7 j = 0) → post (f0, f1, f2, f3, a1, a2, a3, a4, a5, s6, s7, s8, s9, a10, a11, a12, a13, a14, a15, a16)) :
    ∃ n, wX_reset_97 post f0 f1 f2 f3 n 0 a1 a2 a3 a4 a5 a6 a7 a8 a9 a10 a11 a12 a13 a14 a15 a16 :=
  pk_loop (fun n i (s : (Nat → Int64) × (Nat → Int64)) => wX_reset_97 post f0 f1 f2 f3 n (nI i) a1 a2 a3 a4 a5 s.1 s.2 a8 a9 a10 a11 a12 a13 a14 a15 a16) (fun i s => ∀ j, j < i → s.2 j = 0) 4 0 (a6, a7) (by omega) (fun j hj => absurd hj (by omega))
    (fun n s h => pk_le 4 4 (fun _ => lj_r124 (fun s8 s9 => H s.1 s.2 s8 s9 h)) (fun z => absurd z (by omega)))
    (fun n i s hi h hw => pk_le 4 i (fun z => absurd z (by omega)) (fun _ => ⟨pk_in i 4 hi, nm_e ⟨pk_in i 4 hi, nm_e (nm_r (nI_1 i) (hw (_, _) (lj_fill (f := fun _ => 0) (nI_clamp (by omega)) h rfl)))⟩⟩))
theorem lj_r76 (H : ∀ s5 s6 s7 s8 s9 : Nat → Int64, (∀ j, j < 4 → s7 j = 0) → post (f0, f1, f2, f3, a1, a2, a3, a4, s5, s6, s7, s8, s9, a10, a11, a12, a13, a14, a15, a16)) :
    ∃ n, wX_reset_76 post f0 f1 f2 f3 n 0 a1 a2 a3 a4 a5 a6 a7 a8 a9 a10 a11 a12 a13 a14 a15 a16 :=
  pk_loop (fun n i (s : Nat → Int64) => wX_reset_76 post f0 f1 f2 f3 n (nI i) a1 a2 a3 a4 s a6 a7 a8 a9 a10 a11 a12 a13 a14 a15 a16) (fun _ _ => True) 6 0 a5 (by omega) trivial
    (fun n s _ => pk_le 6 6 (fun _ => lj_r97 (H s)) (fun z => absurd z (by omega)))
    (fun n i s hi _ hw => pk_le 6 i (fun z => absurd z (by omega)) (fun _ => ⟨pk_in i 6 hi, nm_e (nm_r (nI_1 i) (hw _ trivial))⟩))
theorem lj_rg0 : ∀ i, i < 16 → 8 ≤ i → (0 : Int64) = lj_rg i := by decide +kernel
theorem lj_r55 (h0 : ∀ j, j < 8 → a4 j = lj_rg j) (H : ∀ s4 s5 s6 s7 s8 s9 : Nat → Int64, (∀ j, j < 16 → s4 j = lj_rg j) → (∀ j, j < 4 → s7 j = 0) → post (f0, f1, f2, f3, a1, a2, a3, s4, s5, s6, s7, s8, s9, a10, a11, a12, a13, a14, a15, a16)) :
    ∃ n, wX_reset_55 post f0 f1 f2 f3 n 8 a1 a2 a3 a4 a5 a6 a7 a8 a9 a10 a11 a12 a13 a14 a15 a16 :=
  pk_loop (fun n i (s : Nat → Int64) => wX_reset_55 post f0 f1 f2 f3 n (nI i) a1 a2 a3 s a5 a6 a7 a8 a9 a10 a11 a12 a13 a14 a15 a16) (fun i s => 8 ≤ i ∧ ∀ j, j < i → s j = lj_rg j) 16 8 a4 (by omega) ⟨Nat.le_refl 8, h0⟩
    (fun n s h => pk_le 16 16 (fun _ => lj_r76 (fun s5 s6 s7 s8 s9 h7 => H s s5 s6 s7 s8 s9 h.2 h7)) (fun z => absurd z (by omega)))
    (fun n i s hi h hw => pk_le 16 i (fun z => absurd z (by omega)) (fun _ => ⟨pk_in i 16 hi, nm_e (nm_r (nI_1 i) (hw _ ⟨by omega, lj_fill (nI_clamp (by omega)) h.2 (lj_rg0 i hi h.1)⟩))⟩))
theorem lj_r2e {s : Nat → Int64} (h : ∀ j, j < 3 → s j = lj_pl j ∧ s (4 + j) = lj_pl (3 + j)) : ∀ j, j < 8 → vp_updL (vp_updL s 3 0) 7 0 j = lj_rg j := by
  intro j hj
  match j, hj with
  | 0, _ => exact (pk_uLn (by omega)).trans ((pk_uLn (by omega)).trans (h 0 (by omega)).1)
  | 1, _ => exact (pk_uLn (by omega)).trans ((pk_uLn (by omega)).trans (h 1 (by omega)).1)
  | 2, _ => exact (pk_uLn (by omega)).trans ((pk_uLn (by omega)).trans (h 2 (by omega)).1)
  | 3, _ => exact (pk_uLn (by omega)).trans pk_uLs
  | 4, _ => exact (pk_uLn (by omega)).trans ((pk_uLn (by omega)).trans (h 0 (by omega)).2)
  | 5, _ => exact (pk_uLn (by omega)).trans ((pk_uLn (by omega)).trans (h 1 (by omega)).2)
  | 6, _ => exact (pk_uLn (by omega)).trans ((pk_uLn (by omega)).trans (h 2 (by omega)).2)
  | 7, _ => exact pk_uLs
theorem lj_r2s {s : Nat → Int64} {i : Nat} (hi : i < 3) (h : ∀ j, j < i → s j = lj_pl j ∧ s (4 + j) = lj_pl (3 + j)) :
    ∀ j, j < i + 1 → vp_updL (vp_updL s (nI i).toNatClampNeg (lj_pl i)) (4 + nI i).toNatClampNeg (lj_pl (3 + i)) j = lj_pl j ∧ vp_updL (vp_updL s (nI i).toNatClampNeg (lj_pl i)) (4 + nI i).toNatClampNeg (lj_pl (3 + i)) (4 + j) = lj_pl (3 + j) := by
  intro j hj
  have e1 : (nI i).toNatClampNeg = i := nI_clamp (by omega)
  have e2 : (4 + nI i).toNatClampNeg = 4 + i := pk_cl (4 + i) (nI_add 4 i) (by omega)
  rw [e1, e2]
  by_cases e : j = i
  · subst e
    exact ⟨(pk_uLn (by omega)).trans pk_uLs, pk_uLs⟩
  · have g := h j (by omega)
    exact ⟨(pk_uLn (by omega)).trans ((pk_uLn e).trans g.1), (pk_uLn (by omega)).trans ((pk_uLn (by omega)).trans g.2)⟩
theorem lj_r2 (H : ∀ s4 s5 s6 s7 s8 s9 : Nat → Int64, (∀ j, j < 16 → s4 j = lj_rg j) → (∀ j, j < 4 → s7 j = 0) → post (f0, f1, f2, f3, a1, a2, a3, s4, s5, s6, s7, s8, s9, a10, a11, a12, a13, a14, a15, a16)) :
    ∃ n, wX_reset_2 post f0 f1 f2 f3 n 0 a1 a2 a3 a4 a5 a6 a7 a8 a9 a10 a11 a12 a13 a14 a15 a16 :=
  pk_loop (fun n i (s : Nat → Int64) => wX_reset_2 post f0 f1 f2 f3 n (nI i) a1 a2 a3 s a5 a6 a7 a8 a9 a10 a11 a12 a13 a14 a15 a16) (fun i s => ∀ j, j < i → s j = lj_pl j ∧ s (4 + j) = lj_pl (3 + j)) 3 0 a4 (by omega) (fun j hj => absurd hj (by omega))
    (fun n s h => pk_le 3 3 (fun _ => nm_e (nm_e (lj_r55 (lj_r2e h) H))) (fun z => absurd z (by omega)))
    (fun n i s hi h hw => pk_le 3 i (fun z => absurd z (by omega)) (fun _ => lj_ip i (by omega) ⟨pk_in i 16 (by omega), nm_e (lj_ip (3 + i) (by omega) ⟨pk_in (4 + i) 16 (by omega) (nI_add 4 i), nm_e (nm_r (nI_1 i) (hw _ (lj_r2s hi h)))⟩ (nI_add 3 i))⟩ rfl))
theorem lj_reset (H : ∀ s4 s5 s6 s7 s8 s9 : Nat → Int64, (∀ j, j < 16 → s4 j = lj_rg j) → (∀ j, j < 4 → s7 j = 0) → post (f0, f1, f2, f3, a1, a2, a3, s4, s5, s6, s7, s8, s9, a10, a11, a12, a13, a14, a15, a16)) : wpX_reset post (f0, f1, f2, f3, a1, a2, a3, a4, a5, a6, a7, a8, a9, a10, a11, a12, a13, a14, a15, a16) := lj_r2 H
end
end
section
section
variable {f0 f1 f2 f3 : Int32} {a1 a2 a3 : Nat → Int32} {a4 a5 a6 a7 a8 a9 a10 a11 a12 a13 a14 a15 a16 : Nat → Int64}
theorem lj_z : ∀ i, i < 4 → ((0 : Int32) >>> (nI i &&& 31)) &&& 1 = 0 := by decide +kernel
theorem lj_s13 {post : St2 → Prop} {x : Int64} (H : post (f0, f1, f2, f3, a1, a2, a3, a4, a5, a6, a7, a8, a9, a10, a11, a12, a13, a14, a15, a16)) : ∃ n, wX_settle_13 post x 0 f0 f1 f2 f3 n 0 a1 a2 a3 a4 a5 a6 a7 a8 a9 a10 a11 a12 a13 a14 a15 a16 :=
  pk_loop (σ := Unit) (fun n i _ => wX_settle_13 post x 0 f0 f1 f2 f3 n (nI i) a1 a2 a3 a4 a5 a6 a7 a8 a9 a10 a11 a12 a13 a14 a15 a16) (fun _ _ => True) 4 0 () (by omega) trivial
    (fun n _ _ => pk_le 4 4 (fun _ => H) (fun z => absurd z (by omega)))
    (fun n i _ hi _ hw => pk_le 4 i (fun z => absurd z (by omega)) (fun _ => br_t (lj_z i hi) (nm_r (nI_1 i) (hw () trivial))))
theorem lj_settle {post : St2 → Prop} {x : Int64} (H : post (f0, f1, f2, f3, a1, a2, a3, a4, a5, a6, (vp_updL a7 0 (a7 0 ||| x)), a8, a9, a10, a11, a12, a13, a14, a15, a16)) : wpX_settle post (f0, f1, f2, f3, a1, a2, a3, a4, a5, a6, a7, a8, a9, a10, a11, a12, a13, a14, a15, a16) x 0 0 :=
  ⟨pk_in 0 4 (by omega), pk_in 0 4 (by omega), nm_r (by rw [sb_cl0]) (lj_s13 H)⟩
theorem lj_send {post : St2 → Prop} {x : Int64} (H : post (f0, 0, f2, f3, a1, a2, a3, a4, a5, a6, (vp_updL a7 0 (a7 0 ||| x)), a8, a9, a10, a11, a12, a13, a14, a15, a16)) : wpX_send post (f0, 0, f2, f3, a1, a2, a3, a4, a5, a6, a7, a8, a9, a10, a11, a12, a13, a14, a15, a16) x 0 :=
  br_f (by decide) (lj_settle H)
theorem lj_least {Q : Int32 → Prop} (H : Q (-1)) : wpX_leastWaiting Q (f0, 0, f2, f3, a1, a2, a3, a4, a5, a6, a7, a8, a9, a10, a11, a12, a13, a14, a15, a16) := ⟨0 + 1, br_t (by decide) H⟩
theorem lj_j27 {post : St2 → Prop} (H : post (f0, 0, f2, f3, a1, a2, a3, a4, a5, a6, a7, a8, a9, a10, a11, a12, a13, a14, a15, a16)) : ∃ n, wX_judge_27 post n 0 f0 0 f2 f3 a1 a2 a3 a4 a5 a6 a7 a8 a9 a10 a11 a12 a13 a14 a15 a16 :=
  ⟨0 + 1, br_f (by decide) (lj_least (br_f (by decide) H))⟩
theorem lj_f7 {s : Nat → Int64} (h : ∀ j, j < 4 → s j = 0) : vp_updL s 0 (s 0 ||| (-1)) 0 = -1 ∧ ∀ j, j < 4 → 0 < j → vp_updL s 0 (s 0 ||| (-1)) j = 0 := by
  constructor
  · rw [pk_uLs, h 0 (by omega)]
    decide
  · intro j hj h0
    rw [pk_uLn (by omega)]
    exact h j hj
theorem lj_judge0 {post : St2 → Prop} (H : ∀ s4 s5 s6 s7 s8 s9 : Nat → Int64, (∀ j, j < 16 → s4 j = lj_rg j) → (s7 0 = -1 ∧ ∀ j, j < 4 → 0 < j → s7 j = 0) → post (f0, 0, 1, f3, a1, a2, a3, s4, s5, s6, s7, s8, s9, a10, a11, a12, a13, a14, a15, a16)) :
    wpX_judge post (f0, 0, 0, f3, a1, a2, a3, a4, a5, a6, a7, a8, a9, a10, a11, a12, a13, a14, a15, a16) :=
  br_t rfl (lj_reset (fun s4 s5 s6 s7 s8 s9 h4 h7 => lj_send (lj_j27 (H s4 s5 s6 _ s8 s9 h4 (lj_f7 h7)))))
theorem lj_judge1 {post : St2 → Prop} (H : post (f0, f1, 1, f3, a1, a2, a3, a4, a5, a6, a7, a8, a9, a10, a11, a12, a13, a14, a15, a16)) : wpX_judge post (f0, f1, 1, f3, a1, a2, a3, a4, a5, a6, a7, a8, a9, a10, a11, a12, a13, a14, a15, a16) := br_f (by decide) H
theorem lj_bm : ∀ k, k < 64 → ¬ (((-1 : Int64).toUInt64 >>> ((nI k).toInt64.toUInt64 &&& Int64.toUInt64 63)).toInt64 &&& 1) = 0 := by decide +kernel
theorem lj_b0 : ∀ k, k < 64 → (((0 : Int64).toUInt64 >>> ((nI k).toInt64.toUInt64 &&& Int64.toUInt64 63)).toInt64 &&& 1) = 0 := by decide +kernel
/-- what fate has found ahead of turn i -/
def lj_fd : Nat → Int32
  | 0 => -1
  | _ => 0
theorem lj_f20 {post : Int32 → St2 → Prop} {k : Nat} (hk : k < 64) (h0 : a7 0 = -1) (h7 : ∀ j, j < 4 → 0 < j → a7 j = 0) (H : post 0 (f0, f1, f2, f3, a1, a2, a3, a4, a5, a6, a7, a8, a9, a10, a11, a12, a13, a14, a15, a16)) :
    ∃ n, wX_fate_20 post (nI k) f0 f1 f2 f3 a1 a2 a3 a4 a5 a6 a7 a8 a9 a10 a11 a12 a13 a14 a15 a16 n (-1) 0 :=
  pk_loop (σ := Unit) (fun n i _ => wX_fate_20 post (nI k) f0 f1 f2 f3 a1 a2 a3 a4 a5 a6 a7 a8 a9 a10 a11 a12 a13 a14 a15 a16 n (lj_fd i) (nI i)) (fun _ _ => True) 4 0 () (by omega) trivial
    (fun n _ _ => pk_le 4 4 (fun _ => H) (fun z => absurd z (by omega)))
    (fun n i _ hi _ hw => pk_le 4 i (fun z => absurd z (by omega)) (fun _ => ⟨pk_in i 4 hi, by
      rw [nI_clamp (show i < 2 ^ 31 by omega)]
      by_cases e : i = 0
      · subst e
        rw [h0]
        exact br_f (lj_bm k hk) (nm_r (nI_1 0) (hw () trivial))
      · rw [h7 i hi (by omega)]
        have t := hw () trivial
        obtain ⟨m, rfl⟩ : ∃ m, i = m + 1 := ⟨i - 1, by omega⟩
        exact br_t (lj_b0 k hk) (nm_r (nI_1 (m + 1)) t)⟩))
theorem lj_fate {post : Int32 → St2 → Prop} {k : Nat} (hk : k < 64) (H : ∀ s4 s5 s6 s7 s8 s9 : Nat → Int64, (∀ j, j < 16 → s4 j = lj_rg j) → post 0 (f0, 0, 1, f3, a1, a2, a3, s4, s5, s6, s7, s8, s9, a10, a11, a12, a13, a14, a15, a16)) :
    wpX_fate post (f0, 0, 0, f3, a1, a2, a3, a4, a5, a6, a7, a8, a9, a10, a11, a12, a13, a14, a15, a16) (nI k) :=
  br_f (nI_pos (by omega)) (br_t (nI_le (b := 63) (by omega) (by decide)) (lj_judge0 (fun s4 s5 s6 s7 s8 s9 h4 h7 => lj_f20 hk h7.1 h7.2 (H s4 s5 s6 s7 s8 s9 h4))))
end
end
section
section
variable {f0 f1 f2 f3 : Int32} {a1 a2 a3 : Nat → Int32} {a4 a5 a6 a7 a8 a9 a10 a11 a12 a13 a14 a15 a16 : Nat → Int64}
/-- bit k of plane j of register i behind a reset -/
def lj_bt (i k j : Nat) : Int32 := (((lj_rg (i * 4 + j)).toUInt64 >>> ((nI k).toInt64.toUInt64 &&& Int64.toUInt64 63)).toInt64 &&& 1).toInt32
/-- what register has gathered ahead of turn j -/
def lj_ac (i k : Nat) : Nat → Int32
  | 0 => 0
  | j + 1 => lj_ac i k j ||| (lj_bt i k j <<< (nI j &&& 31))
theorem lj_bo {Q : Int32 → Prop} {p : Int64} {x : Int32} (h : Q (((p.toUInt64 >>> (x.toInt64.toUInt64 &&& Int64.toUInt64 63)).toInt64 &&& 1).toInt32)) : wpX_bitOf Q () p x := h
theorem lj_ix (i j : Nat) : nI i * 4 + nI j = nI (i * 4 + j) := by
  rw [show (4 : Int32) = nI 4 from rfl, pk_mul, nI_add]
theorem lj_g30 {post : Int32 → St2 → Prop} {k i : Nat} (hi : i < 4) (h4 : ∀ j, j < 16 → a4 j = lj_rg j) (H : post (lj_ac i k 4) (f0, f1, f2, f3, a1, a2, a3, a4, a5, a6, a7, a8, a9, a10, a11, a12, a13, a14, a15, a16)) :
    ∃ n, wX_register_30 post (nI k) (nI i) f0 f1 f2 f3 a1 a2 a3 a4 a5 a6 a7 a8 a9 a10 a11 a12 a13 a14 a15 a16 n 0 0 :=
  pk_loop (σ := Unit) (fun n j _ => wX_register_30 post (nI k) (nI i) f0 f1 f2 f3 a1 a2 a3 a4 a5 a6 a7 a8 a9 a10 a11 a12 a13 a14 a15 a16 n (lj_ac i k j) (nI j)) (fun _ _ => True) 4 0 () (by omega) trivial
    (fun n _ _ => pk_le 4 4 (fun _ => H) (fun z => absurd z (by omega)))
    (fun n j _ hj _ hw => pk_le 4 j (fun z => absurd z (by omega)) (fun _ => ⟨pk_in (i * 4 + j) 16 (by omega) (lj_ix i j), lj_bo (nm_r (by rw [pk_cl (i * 4 + j) (lj_ix i j) (by omega), h4 (i * 4 + j) (by omega)]; rfl) (nm_r (nI_1 j) (hw () trivial)))⟩))
theorem lj_reg {post : Int32 → St2 → Prop} {k i : Nat} (hk : k < 64) (hi : i < 4) (h4 : ∀ j, j < 16 → a4 j = lj_rg j) (H : post (lj_ac i k 4) (f0, f1, 1, f3, a1, a2, a3, a4, a5, a6, a7, a8, a9, a10, a11, a12, a13, a14, a15, a16)) :
    wpX_register post (f0, f1, 1, f3, a1, a2, a3, a4, a5, a6, a7, a8, a9, a10, a11, a12, a13, a14, a15, a16) (nI k) (nI i) :=
  br_f (nI_pos (by omega)) (br_f (nI_nlt (a := 63) (by omega) (by decide)) (br_f (nI_pos (by omega)) (br_t (nI_le (b := 3) (by omega) (by decide)) (lj_judge1 (lj_g30 hi h4 H)))))
theorem lj_t0 : ∀ k, k < 64 → lj_ac 0 k 4 = nI k - nI k / 8 * 8 := by decide +kernel
theorem lj_t1 : ∀ k, k < 64 → lj_ac 1 k 4 = nI k / 8 := by decide +kernel
theorem lj_t2 : ∀ k, k < 64 → lj_ac 2 k 4 = 0 := by decide +kernel
theorem lj_t3 : ∀ k, k < 64 → lj_ac 3 k 4 = 0 := by decide +kernel
end
end
section
section
variable {f0 f1 f2 f3 : Int32} {a1 a2 a3 : Nat → Int32} {a4 a5 a6 a7 a8 a9 a10 a11 a12 a13 a14 a15 a16 : Nat → Int64}
/-- what faultOf answers -/
def lj_du (op a b : Int32) : Int32 :=
  if op < 0 then -2 else if op ≤ 11 then (if a < 0 then -3 else if a ≤ 3 then
    (if op = 0 then (if b < 0 then -4 else if b ≤ 15 then 0 else -4)
     else if op = 9 then (if b < 0 then -4 else if b ≤ 12 then 0 else -4)
     else if 8 < op then 0
     else (if b < 0 then -4 else if b ≤ 3 then 0 else -4)) else -3) else -2
theorem lj_fault {Q : Int32 → Prop} {op a b : Int32} (h : Q (lj_du op a b)) : wpX_faultOf Q () op a b := by
  unfold lj_du at h
  refine br_c (fun c1 => ?_) (fun c1 => br_c (fun c2 => br_c (fun c3 => ?_) (fun c3 => br_c (fun c4 => br_c (fun c5 => ?_) (fun c5 => br_c (fun c6 => ?_) (fun c6 => br_c (fun c7 => ?_) (fun c7 => ?_)))) (fun c4 => ?_))) (fun c2 => ?_))
  · rw [if_pos c1] at h
    exact h
  · rw [if_neg c1, if_pos c2, if_pos c3] at h
    exact h
  · rw [if_neg c1, if_pos c2, if_neg c3, if_pos c4, if_pos c5] at h
    refine br_f (by decide) (br_c (fun d1 => ?_) (fun d1 => br_c (fun d2 => ?_) (fun d2 => ?_)))
    · rw [if_pos d1] at h
      exact h
    · rw [if_neg d1, if_pos d2] at h
      exact h
    · rw [if_neg d1, if_neg d2] at h
      exact h
  · rw [if_neg c1, if_pos c2, if_neg c3, if_pos c4, if_neg c5, if_pos c6] at h
    refine br_f (by decide) (br_c (fun d1 => ?_) (fun d1 => br_c (fun d2 => ?_) (fun d2 => ?_)))
    · rw [if_pos d1] at h
      exact h
    · rw [if_neg d1, if_pos d2] at h
      exact h
    · rw [if_neg d1, if_neg d2] at h
      exact h
  · rw [if_neg c1, if_pos c2, if_neg c3, if_pos c4, if_neg c5, if_neg c6, if_pos c7] at h
    exact br_t (by decide) h
  · rw [if_neg c1, if_pos c2, if_neg c3, if_pos c4, if_neg c5, if_neg c6, if_neg c7] at h
    refine br_f (by decide) (br_c (fun d1 => ?_) (fun d1 => br_c (fun d2 => ?_) (fun d2 => ?_)))
    · rw [if_pos d1] at h
      exact h
    · rw [if_neg d1, if_pos d2] at h
      exact h
    · rw [if_neg d1, if_neg d2] at h
      exact h
  · rw [if_neg c1, if_pos c2, if_neg c3, if_neg c4] at h
    exact h
  · rw [if_neg c1, if_neg c2] at h
    exact h
theorem lj_emit {post : Int32 → St2 → Prop} {op a b : Int32} (H0 : lj_du op a b = 0 → ∀ b1 b2 b3 : Nat → Int32, post 0 (f0, 1, 0, f3, b1, b2, b3, a4, a5, a6, a7, a8, a9, a10, a11, a12, a13, a14, a15, a16)) (H1 : ¬ lj_du op a b = 0 → post (lj_du op a b) (f0, 0, f2, f3, a1, a2, a3, a4, a5, a6, a7, a8, a9, a10, a11, a12, a13, a14, a15, a16)) :
    wpX_emit post (f0, 0, f2, f3, a1, a2, a3, a4, a5, a6, a7, a8, a9, a10, a11, a12, a13, a14, a15, a16) op a b := by
  have e : (1 : Int32) - 1 = 0 := by decide
  refine br_t (by decide) (lj_fault (br_c (fun h => nm_r (e' := 1) (by decide) ⟨pk_in 0 12 (by omega), nm_e ⟨pk_in 0 12 (by omega), nm_e ⟨pk_in 0 12 (by omega), nm_e ?_⟩⟩⟩) (fun h => H1 h)))
  show post ((1 : Int32) - 1) (f0, 1, 0, f3, _)
  rw [e]
  exact H0 h _ _ _
theorem lj_length {Q : Int32 → Prop} (h : Q f1) : wpX_length Q (f0, f1, f2, f3, a1, a2, a3, a4, a5, a6, a7, a8, a9, a10, a11, a12, a13, a14, a15, a16) := h
theorem lj_patch {post : Int32 → St2 → Prop} {op a b : Int32} (hs : ¬ (1 : Int32) < f1) (H : post (-1) (f0, f1, f2, f3, a1, a2, a3, a4, a5, a6, a7, a8, a9, a10, a11, a12, a13, a14, a15, a16)) : wpX_patch post (f0, f1, f2, f3, a1, a2, a3, a4, a5, a6, a7, a8, a9, a10, a11, a12, a13, a14, a15, a16) 1 op a b :=
  br_f (by decide) (br_f hs H)
theorem lj_agree {post : Int32 → St2 → Prop} (H : post (-1) (f0, f1, f2, 0, a1, a2, a3, a4, a5, a6, a7, a8, a9, a10, a11, a12, a13, a14, a15, a16)) : wpX_agreeing post (f0, f1, f2, 0, a1, a2, a3, a4, a5, a6, a7, a8, a9, a10, a11, a12, a13, a14, a15, a16) := br_t rfl H
end
end
section
section
variable {post : Int32 → St0 → Prop} {mc ms kc ks : Nat} {op a b x7 x8 x9 x10 x11 x12 x13 x14 : Int32}
/-- the law's own reckoning of the fault is faultOf's -/
theorem lj_133 (h : wL_lawOf_223 post mc ms x7 x8 x9 x10 x11 x12 x13 x14 (lj_du op a b) kc ks) : wL_lawOf_133 post mc ms op a b x7 x8 x9 x10 x11 x12 x13 x14 kc ks := by
  unfold lj_du at h
  refine br_c (fun c1 => ?_) (fun c1 => br_c (fun c2 => br_c (fun c3 => ?_) (fun c3 => br_c (fun c4 => br_c (fun c5 => br_c (fun d1 => ?_) (fun d1 => br_c (fun d2 => ?_) (fun d2 => ?_))) (fun c5 => ?_)) (fun c4 => ?_))) (fun c2 => ?_))
  · rw [if_pos c1] at h
    exact h
  · rw [if_neg c1, if_pos c2, if_pos c3] at h
    exact h
  · rw [if_neg c1, if_pos c2, if_neg c3, if_pos c4, if_pos c5, if_pos d1] at h
    exact h
  · rw [if_neg c1, if_pos c2, if_neg c3, if_pos c4, if_pos c5, if_neg d1, if_neg (Int32.not_le.mpr d2)] at h
    exact h
  · rw [if_neg c1, if_pos c2, if_neg c3, if_pos c4, if_pos c5, if_neg d1, if_pos (Int32.not_lt.mp d2)] at h
    subst c5
    exact br_t (by decide) (br_f (by decide) h)
  · rw [if_neg c1, if_pos c2, if_neg c3, if_pos c4, if_neg c5] at h
    have c6 : ¬ op < 1 := fun z => c5 (by
      rw [Int32.lt_iff_toInt_lt] at z c1
      have e0 : (0 : Int32).toInt = 0 := by decide
      have e1 : (1 : Int32).toInt = 1 := by decide
      rw [e0] at c1
      rw [e1] at z
      apply Int32.toInt_inj.mp
      rw [e0]
      omega)
    refine br_f c6 (br_c (fun c7 => ?_) (fun c7 => ?_))
    · refine br_c (fun c8 => br_c (fun d1 => ?_) (fun d1 => br_c (fun d2 => ?_) (fun d2 => ?_))) (fun c8 => ?_)
      · rw [if_pos c8, if_pos d1] at h
        exact h
      · rw [if_pos c8, if_neg d1, if_pos d2] at h
        exact h
      · rw [if_pos c8, if_neg d1, if_neg d2] at h
        exact h
      · rw [if_neg c8, if_pos c7] at h
        exact h
    · have c8 : ¬ op = 9 := fun z => c7 (by rw [z]; decide)
      rw [if_neg c8, if_neg c7] at h
      refine br_c (fun d1 => ?_) (fun d1 => br_c (fun d2 => ?_) (fun d2 => ?_))
      · rw [if_pos d1] at h
        exact h
      · rw [if_neg d1, if_neg (Int32.not_le.mpr d2)] at h
        exact h
      · rw [if_neg d1, if_pos (Int32.not_lt.mp d2)] at h
        exact br_f c8 h
  · rw [if_neg c1, if_pos c2, if_neg c3, if_neg c4] at h
    exact h
  · rw [if_neg c1, if_neg c2] at h
    exact h
theorem lj_270 {z : Int32} (H : post 1 ()) : wL_lawOf_270 post mc ms (-1) z z kc ks := br_t rfl (br_t rfl H)
theorem lj_235a {z r : Int32} (H : post 1 ()) : wL_lawOf_235 post mc ms r (-1) 0 1 (-1) r 0 z z kc ks := br_t rfl (br_t rfl (br_t rfl (br_t rfl (br_t rfl (lj_270 H)))))
theorem lj_235b {z r d : Int32} (hd : ¬ d = 0) (H : post 1 ()) : wL_lawOf_235 post mc ms r (-1) d 0 (-1) r d z z kc ks := br_t rfl (br_t rfl (br_t rfl (br_t rfl (br_f hd (lj_270 H)))))
theorem lj_223 {x13 x15 x10 x11 z r : Int32} (h13 : (x13 = 0 ∧ z = -1) ∨ (¬ x13 = 0 ∧ z = 0)) (h : wL_lawOf_235 post mc ms r (-1) x10 x11 (-1) r x15 z z kc ks) : wL_lawOf_223 post mc ms z r (-1) x10 x11 (-1) x13 r x15 kc ks := by
  rcases h13 with ⟨e, rfl⟩ | ⟨e, rfl⟩
  · exact br_t e h
  · exact br_f e h
theorem lj_ga {x13 z r : Int32} (h13 : (x13 = 0 ∧ z = -1) ∨ (¬ x13 = 0 ∧ z = 0)) (hd : lj_du op a b = 0) (H : post 1 ()) : wL_lawOf_133 post mc ms op a b z r (-1) 0 1 (-1) x13 r kc ks :=
  lj_133 (by rw [hd]; exact lj_223 h13 (lj_235a H))
theorem lj_gb {x13 z r : Int32} (h13 : (x13 = 0 ∧ z = -1) ∨ (¬ x13 = 0 ∧ z = 0)) (hd : ¬ lj_du op a b = 0) (H : post 1 ()) : wL_lawOf_133 post mc ms op a b z r (-1) (lj_du op a b) 0 (-1) x13 r kc ks :=
  lj_133 (lj_223 h13 (lj_235b hd H))
end
end
section
theorem lj_init {post : St2 → Prop} {f0 f1 f2 f3 p0 : Int32} (H : ∀ l : Int32, post (l, f1, f2, f3, (fun _ => 0), (fun _ => 0), (fun _ => 0), (fun _ => 0), (fun _ => 0), (fun _ => 0), (fun _ => 0), (fun _ => 0), (fun _ => 0), (fun _ => 0), (fun _ => 0), (fun _ => 0), (fun _ => 0), (fun _ => 0), (fun _ => 0), (fun _ => 0))) : wpX_init post 16 120 (f0, f1, f2, f3) p0 :=
  ⟨by omega, by omega, by omega, by omega, by omega, by omega, by omega, by omega, by omega, by omega, by omega, by omega, by omega, by omega, by omega, by omega, by omega, by omega, by omega, by omega, by omega, by omega, by omega, by omega, by omega, by omega, by omega, by omega, by omega, by omega, by omega, by omega, br_c (fun _ => br_c (fun _ => H _) (fun _ => H _)) (fun _ => H _)⟩
theorem lj_cell {Q : Int32 → Prop} {L : Nat} {xs : Nat → Int32} {x : Int32} (hL : L ≤ 6) (k : Nat) (hk : k < 6) (H : ∀ y, Q y) (hx : x = nI k) : wpL_cellAt Q L xs () x := by
  subst hx
  exact pk_le L k (fun _ => H _) (fun z => ⟨pk_in k L z, H _⟩)
theorem lj_lawOf (p0 p1 p2 p3 p4 p5 : Int32) : wpL_lawOf (fun r _ => r = 1) 134 2128 () p0 p1 p2 p3 p4 p5 := by
  refine ⟨by omega, by omega, 16, 120, by omega, by omega, lj_init (fun l => ?_)⟩
  rcases pk_ix p4 (n := 64) (by omega) with h | h | ⟨k, hk, rfl⟩
  · refine br_t h (br_t h (lj_agree (lj_emit (fun e b1 b2 b3 => lj_length (lj_patch (by decide) (br_t h (br_t rfl ?_)))) (fun e => lj_length (lj_patch (by decide) (br_t h (br_t rfl ?_)))))))
    · exact lj_ga (Or.inl ⟨rfl, rfl⟩) e rfl
    · exact lj_gb (Or.inl ⟨rfl, rfl⟩) e rfl
  · have g1 : ¬ p4 < 0 := by
      intro z
      exact absurd (Int32.lt_of_le_of_lt h z) (by decide)
    have g2 : 63 < p4 := Int32.lt_of_lt_of_le (show (63 : Int32) < nI 64 by decide) h
    refine br_f g1 (br_f (Int32.not_le.mpr g2) (br_f g1 (br_t g2 (lj_agree (lj_emit (fun e b1 b2 b3 => lj_length (lj_patch (by decide) (br_f g1 (br_t g2 (br_t rfl ?_))))) (fun e => lj_length (lj_patch (by decide) (br_f g1 (br_t g2 (br_t rfl ?_)))))))))) 
    · exact lj_ga (Or.inl ⟨rfl, rfl⟩) e rfl
    · exact lj_gb (Or.inl ⟨rfl, rfl⟩) e rfl
  · have g1 : ¬ nI k < 0 := nI_pos (by omega)
    have g2 : ¬ 63 < nI k := nI_nlt (a := 63) (by omega) (by decide)
    refine lj_fate hk (fun s4 s5 s6 s7 s8 s9 h4 => ?_)
    rcases pk_ix p5 (n := 4) (by omega) with h | h | ⟨i, hi, rfl⟩
    · refine br_f g1 (br_f g2 (br_t h (lj_agree (lj_emit (fun e b1 b2 b3 => lj_length (lj_patch (by decide) (br_f g1 (br_f g2 (br_f (by decide) (br_t h ?_)))))) (fun e => lj_length (lj_patch (by decide) (br_f g1 (br_f g2 (br_f (by decide) (br_t h ?_))))))))))
      · exact lj_ga (Or.inr ⟨by decide, rfl⟩) e rfl
      · exact lj_gb (Or.inr ⟨by decide, rfl⟩) e rfl
    · have q1 : ¬ p5 < 0 := by
        intro z
        exact absurd (Int32.lt_of_le_of_lt h z) (by decide)
      have q2 : 3 < p5 := Int32.lt_of_lt_of_le (show (3 : Int32) < nI 4 by decide) h
      refine br_f g1 (br_f g2 (br_f q1 (br_f (Int32.not_le.mpr q2) (lj_agree (lj_emit (fun e b1 b2 b3 => lj_length (lj_patch (by decide) (br_f g1 (br_f g2 (br_f (by decide) (br_f q1 (br_t q2 ?_))))))) (fun e => lj_length (lj_patch (by decide) (br_f g1 (br_f g2 (br_f (by decide) (br_f q1 (br_t q2 ?_)))))))))))) 
      · exact lj_ga (Or.inr ⟨by decide, rfl⟩) e rfl
      · exact lj_gb (Or.inr ⟨by decide, rfl⟩) e rfl
    · have q1 : ¬ nI i < 0 := nI_pos (by omega)
      have q2 : ¬ 3 < nI i := nI_nlt (a := 3) (by omega) (by decide)
      refine lj_reg hk hi h4 (lj_agree (lj_emit (fun e b1 b2 b3 => lj_length (lj_patch (by decide) (br_f g1 (br_f g2 (br_f (by decide) (br_f q1 (br_f q2 ?_))))))) (fun e => lj_length (lj_patch (by decide) (br_f g1 (br_f g2 (br_f (by decide) (br_f q1 (br_f q2 ?_)))))))))
      · match i, hi with
        | 0, _ => exact br_t rfl ⟨by decide, by rw [lj_t0 k hk]; exact lj_ga (Or.inr ⟨by decide, rfl⟩) e rfl⟩
        | 1, _ => exact br_f (by decide) (br_t rfl ⟨by decide, by rw [lj_t1 k hk]; exact lj_ga (Or.inr ⟨by decide, rfl⟩) e rfl⟩)
        | 2, _ => exact br_f (by decide) (br_f (by decide) (by rw [lj_t2 k hk]; exact lj_ga (Or.inr ⟨by decide, rfl⟩) e rfl))
        | 3, _ => exact br_f (by decide) (br_f (by decide) (by rw [lj_t3 k hk]; exact lj_ga (Or.inr ⟨by decide, rfl⟩) e rfl))
      · match i, hi with
        | 0, _ => exact br_t rfl ⟨by decide, by rw [lj_t0 k hk]; exact lj_gb (Or.inr ⟨by decide, rfl⟩) e rfl⟩
        | 1, _ => exact br_f (by decide) (br_t rfl ⟨by decide, by rw [lj_t1 k hk]; exact lj_gb (Or.inr ⟨by decide, rfl⟩) e rfl⟩)
        | 2, _ => exact br_f (by decide) (br_f (by decide) (by rw [lj_t2 k hk]; exact lj_gb (Or.inr ⟨by decide, rfl⟩) e rfl))
        | 3, _ => exact br_f (by decide) (br_f (by decide) (by rw [lj_t3 k hk]; exact lj_gb (Or.inr ⟨by decide, rfl⟩) e rfl))
theorem i_vc (xs : Nat → Int32) (L : Nat) (hL : L ≤ 6) : wpL_law (fun r => r = 1) L xs :=
  lj_cell hL 0 (by omega) (fun r1 => lj_cell hL 1 (by omega) (fun r2 => lj_cell hL 2 (by omega) (fun r3 => lj_cell hL 3 (by omega) (fun r4 => lj_cell hL 4 (by omega) (fun r5 => lj_cell hL 5 (by omega) (fun r6 => ⟨134, 2128, by omega, by omega, lj_lawOf r1 r2 r3 r4 r5 r6⟩) rfl) rfl) rfl) rfl) rfl) rfl
end
