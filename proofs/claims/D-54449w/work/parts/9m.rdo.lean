/-! THE TEXT READER'S ORDER: what is kept of it -/
def rOP (G : mG) (rd eb x mn : Nat) (fn : Nat → Option Nat) (L : Int32) (P : Nat × Bool × Int32 × Int32 × Int32) (M0 M1 : mM) : Prop :=
  ∃ o : Nat, (P.2.1 = true → M0 o = none ∧ M1 o = some (rOb G L P.2.2.1 P.2.2.2.1 P.2.2.2.2)) ∧ M1 rd = some (eO 8 [.int (nI P.1), .int (rW P.2.1), .ref eb, .int (nI (if P.2.1 then mn + 1 else mn)), .ref x]) ∧
    M1 eb = some (eQ (G.2.1 8) 60 (if P.2.1 then va_up fn mn (some o) else fn)) ∧ ∀ a z, M0 a = some z → a ≠ rd → a ≠ eb → M1 a = some z
section RDO
variable {G : mG} {A : Nat → Prop} {H0 : Heap} {M M0 : mM} {H : Heap} {locs : List Loc} {rd eb x mn o a : Nat} {fn : Nat → Option Nat} {L : Int32} {P : Nat × Bool × Int32 × Int32 × Int32} {e3 eL y z : mE}
theorem rOP.bad (hw : P.2.1 = false) (h1 : M rd = some (eO 8 [.int (nI P.1), .int (rW false), .ref eb, .int (nI mn), .ref x])) (h2 : M eb = some (eQ (G.2.1 8) 60 fn)) (h3 : NewB M0 rd M) : rOP G rd eb x mn fn L P M0 M :=
  ⟨0, (fun q => (by rw [hw] at q; cases q)), by rw [hw]; exact h1, by rw [hw]; exact h2, fun a z h hr _ => h3 a z h hr⟩
theorem rOP.ok (hw : P.2.1 = true) (h0 : M0 o = none) (h4 : M o = some (rOb G L P.2.2.1 P.2.2.2.1 P.2.2.2.2)) (h1 : M rd = some (eO 8 [.int (nI P.1), .int (rW true), .ref eb, .int (nI (mn + 1)), .ref x])) (h2 : M eb = some (eQ (G.2.1 8) 60 (va_up fn mn (some o)))) (h3 : ∀ a z, M0 a = some z → a ≠ rd → a ≠ eb → M a = some z) : rOP G rd eb x mn fn L P M0 M :=
  ⟨o, fun _ => ⟨h0, h4⟩, by rw [hw]; exact h1, by rw [hw]; exact h2, h3⟩
theorem tk_q (hq : M o = none) (hr : M rd = some y) : mup M rd e3 o = none := (mup_ne (Ne.symm (kp_ne hq hr))).trans hq
theorem tk_a (_h : mWd G A H0 (mup (mup M rd e3) o eL) H locs) (hq : M o = none) (hr : M rd = some y) (hne : a ≠ rd) (h : M a = some z) : mup (mup M rd e3) o eL a = some z := kp_new (tk_q hq hr) (kp_put hne h)
theorem tk_r (_h : mWd G A H0 (mup (mup M rd e3) o eL) H locs) (hq : M o = none) (hr : M rd = some y) : mup (mup M rd e3) o eL rd = some e3 := kp_new (tk_q hq hr) (mup_self _ _ _)
theorem tk_o (_h : mWd G A H0 (mup (mup M rd e3) o eL) H locs) : mup (mup M rd e3) o eL o = some eL := mup_self _ _ _
theorem tk_N (_h : mWd G A H0 (mup (mup M rd e3) o eL) H locs) (hq : M o = none) (hr : M rd = some y) (hN : NewB M0 rd M) : NewB M0 rd (mup (mup M rd e3) o eL) := fun a z h hb => kp_new (tk_q hq hr) (kp_put hb (hN a z h hb))
theorem rOb_m (u v w : Int32) : rOb G (nI 109) u v w = .inr (lamC (G.2.1 (20 + 0)) [.int u, .int v]) := rfl
theorem rOb_u (u v w : Int32) : rOb G (nI 117) u v w = .inr (lamC (G.2.1 (20 + 4)) [.int u]) := rfl
theorem rOb_s (u v w : Int32) : rOb G (nI 115) u v w = .inr (lamC (G.2.1 (20 + 5)) [.int u, .int v]) := rfl
theorem rOb_w (u v w : Int32) : rOb G (nI 119) u v w = .inr (lamC (G.2.1 (20 + 6)) [.int u, .int v, .int w]) := rfl
theorem rOb_r (u v w : Int32) : rOb G (nI 114) u v w = .inr (lamC (G.2.1 (20 + 7)) [.int u, .int v]) := rfl
theorem rOb_v (u v w : Int32) : rOb G (nI 118) u v w = .inr (lamC (G.2.1 (20 + 8)) [.int u, .int v]) := rfl
theorem rOb_c (u v w : Int32) : rOb G (nI 99) u v w = .inr (lamC (G.2.1 (20 + 9)) [.int u]) := rfl
theorem rOb_f (u v w : Int32) : rOb G (nI 102) u v w = .inr (lamC (G.2.1 (20 + 10)) [.int u, .int v]) := rfl
end RDO
theorem rP1_no {b t : Nat → Int32} {nb pl c : Nat} (hb : rTx b t nb) (hc : c < 127) (h : rSg b nb pl = nI c) (hn : ¬ (c = 109 ∨ c = 117 ∨ c = 115 ∨ c = 119 ∨ c = 114 ∨ c = 118 ∨ c = 99 ∨ c = 102)) : tP1 (tSg b nb pl) = false := by
  refine tP1_no fun k hk q => ?_
  rcases rSg_or (pl := pl) hb with ⟨-, d, -, g2, g3, g4⟩ | ⟨-, -, g4⟩
  · rw [g3, nI_nat_eq (by omega) (by omega)] at h
    rw [g4, nI_nat_eq (by omega) (by omega)] at q
    omega
  · rw [g4, nI_nat_eq (by omega) (by omega)] at q
    omega
