/-! THE LIST'S size AND get over any world that holds the State -/
section LQ
variable {G : mG} {ad : Nat → Nat} {n : Nat} {r : Nat → Int32} {f : Nat → UInt32} {dv : Nat → Int32} {M0 : mM}
theorem cq_J2_size (l : Launch) (hd : sAd n ad) (hn : n ≤ 6) (hS : sAt G ad n r f dv M0) : mMet l yJ2_size (ws_ yJ2_size cJ2_size 1 (some .int)) (mRm 1 0 0) [.ref (ad 2)] G (pPre M0) (pPost M0 (some (.int (nI n)))) := by
  have h := cs_J2_size l (G := G) (r := r) (f := f) (dv := dv) (M0 := M0) hd hn
  rw [sAt.eq hd hS] at h
  exact h
theorem cq_J2_get (l : Launch) {k : Nat} (hd : sAd n ad) (hn : n ≤ 6) (h1 : k < n) (hS : sAt G ad n r f dv M0) : mMet l yJ2_get (ws_ yJ2_get cJ2_get 2 (some (.object "java/lang/Object"))) (mRm 3 0 0) [.ref (ad 2), .int (nI k)] G (pPre M0) (pPost M0 (some (.ref (ad (60 + k))))) := by
  have h := cs_J2_get l (G := G) (r := r) (f := f) (dv := dv) (M0 := M0) hd hn h1
  rw [sAt.eq hd hS] at h
  exact h
end LQ
