section
/-! contracts: printed by tools/mk.py out of s42_eval.py -/
set_option maxRecDepth 100000
set_option maxHeartbeats 1500000
/-- what the working out of a question writes in the model -/
def wsM (c : Nat) (i : Int) : Prop := (565 ≤ c ∧ c ≤ 574) ∨ (621 ≤ c ∧ c ≤ 636) ∨ c = 648 ∨ (c = 555 ∧ (i = 12 ∨ i = 19 ∨ i = 22 ∨ i = 100 ∨ i = 105 ∨ i = 108 ∨ i = 113))
abbrev KM (σ τ : Sto) : Prop := Ch (wsM) σ τ
theorem KM_rf {σ : Sto} : KM σ σ := Ch.rf
theorem KM_w {σ τ : Sto} {a : Nat} {i v : Int} (e : τ = σ.wI a i v) (h : wsM a i) : KM σ τ := by subst e; exact Ch.wI Ch.rf h
theorem KM_c {σ τ : Sto} {a b : Nat} {i j z : Int} (e : τ = σ.cp a i b j z) (h : ∀ y, j ≤ y → y < j + z → wsM b y) : KM σ τ := by subst e; exact Ch.cp Ch.rf h
theorem KM_rd {σ τ : Sto} {F : Nat → Int → Int} (r : τ.R = σ.R) (s : τ.sh = σ.sh) (n : τ.n = σ.n) (e : τ.I = F) (h : ∀ c i, ¬ wsM c i → F c i = σ.I c i) : KM σ τ := ⟨⟨r, s, n⟩, fun c i q => by rw [e]; exact h c i q⟩
theorem km_558 {σ τ : Sto} (h : KM σ τ) : τ.I 558 = σ.I 558 := funext fun i => h.2 558 i (by unfold wsM; omega)
theorem km_559 {σ τ : Sto} (h : KM σ τ) : τ.I 559 = σ.I 559 := funext fun i => h.2 559 i (by unfold wsM; omega)
theorem km_560 {σ τ : Sto} (h : KM σ τ) : τ.I 560 = σ.I 560 := funext fun i => h.2 560 i (by unfold wsM; omega)
theorem km_561 {σ τ : Sto} (h : KM σ τ) : τ.I 561 = σ.I 561 := funext fun i => h.2 561 i (by unfold wsM; omega)
theorem km_562 {σ τ : Sto} (h : KM σ τ) : τ.I 562 = σ.I 562 := funext fun i => h.2 562 i (by unfold wsM; omega)
theorem km_563 {σ τ : Sto} (h : KM σ τ) : τ.I 563 = σ.I 563 := funext fun i => h.2 563 i (by unfold wsM; omega)
theorem km_564 {σ τ : Sto} (h : KM σ τ) : τ.I 564 = σ.I 564 := funext fun i => h.2 564 i (by unfold wsM; omega)
theorem km_577 {σ τ : Sto} (h : KM σ τ) : τ.I 577 = σ.I 577 := funext fun i => h.2 577 i (by unfold wsM; omega)
theorem km_578 {σ τ : Sto} (h : KM σ τ) : τ.I 578 = σ.I 578 := funext fun i => h.2 578 i (by unfold wsM; omega)
theorem km_579 {σ τ : Sto} (h : KM σ τ) : τ.I 579 = σ.I 579 := funext fun i => h.2 579 i (by unfold wsM; omega)
theorem km_580 {σ τ : Sto} (h : KM σ τ) : τ.I 580 = σ.I 580 := funext fun i => h.2 580 i (by unfold wsM; omega)
theorem km_581 {σ τ : Sto} (h : KM σ τ) : τ.I 581 = σ.I 581 := funext fun i => h.2 581 i (by unfold wsM; omega)
theorem km_582 {σ τ : Sto} (h : KM σ τ) : τ.I 582 = σ.I 582 := funext fun i => h.2 582 i (by unfold wsM; omega)
theorem km_583 {σ τ : Sto} (h : KM σ τ) : τ.I 583 = σ.I 583 := funext fun i => h.2 583 i (by unfold wsM; omega)
theorem km_584 {σ τ : Sto} (h : KM σ τ) : τ.I 584 = σ.I 584 := funext fun i => h.2 584 i (by unfold wsM; omega)
theorem km_585 {σ τ : Sto} (h : KM σ τ) : τ.I 585 = σ.I 585 := funext fun i => h.2 585 i (by unfold wsM; omega)
theorem km_586 {σ τ : Sto} (h : KM σ τ) : τ.I 586 = σ.I 586 := funext fun i => h.2 586 i (by unfold wsM; omega)
theorem km_587 {σ τ : Sto} (h : KM σ τ) : τ.I 587 = σ.I 587 := funext fun i => h.2 587 i (by unfold wsM; omega)
theorem km_588 {σ τ : Sto} (h : KM σ τ) : τ.I 588 = σ.I 588 := funext fun i => h.2 588 i (by unfold wsM; omega)
theorem km_589 {σ τ : Sto} (h : KM σ τ) : τ.I 589 = σ.I 589 := funext fun i => h.2 589 i (by unfold wsM; omega)
theorem km_590 {σ τ : Sto} (h : KM σ τ) : τ.I 590 = σ.I 590 := funext fun i => h.2 590 i (by unfold wsM; omega)
theorem km_591 {σ τ : Sto} (h : KM σ τ) : τ.I 591 = σ.I 591 := funext fun i => h.2 591 i (by unfold wsM; omega)
theorem km_592 {σ τ : Sto} (h : KM σ τ) : τ.I 592 = σ.I 592 := funext fun i => h.2 592 i (by unfold wsM; omega)
theorem km_593 {σ τ : Sto} (h : KM σ τ) : τ.I 593 = σ.I 593 := funext fun i => h.2 593 i (by unfold wsM; omega)
theorem km_594 {σ τ : Sto} (h : KM σ τ) : τ.I 594 = σ.I 594 := funext fun i => h.2 594 i (by unfold wsM; omega)
theorem km_595 {σ τ : Sto} (h : KM σ τ) : τ.I 595 = σ.I 595 := funext fun i => h.2 595 i (by unfold wsM; omega)
theorem km_596 {σ τ : Sto} (h : KM σ τ) : τ.I 596 = σ.I 596 := funext fun i => h.2 596 i (by unfold wsM; omega)
theorem km_597 {σ τ : Sto} (h : KM σ τ) : τ.I 597 = σ.I 597 := funext fun i => h.2 597 i (by unfold wsM; omega)
theorem km_600 {σ τ : Sto} (h : KM σ τ) : τ.I 600 = σ.I 600 := funext fun i => h.2 600 i (by unfold wsM; omega)
theorem km_601 {σ τ : Sto} (h : KM σ τ) : τ.I 601 = σ.I 601 := funext fun i => h.2 601 i (by unfold wsM; omega)
theorem km_602 {σ τ : Sto} (h : KM σ τ) : τ.I 602 = σ.I 602 := funext fun i => h.2 602 i (by unfold wsM; omega)
theorem km_603 {σ τ : Sto} (h : KM σ τ) : τ.I 603 = σ.I 603 := funext fun i => h.2 603 i (by unfold wsM; omega)
theorem km_604 {σ τ : Sto} (h : KM σ τ) : τ.I 604 = σ.I 604 := funext fun i => h.2 604 i (by unfold wsM; omega)
theorem km_605 {σ τ : Sto} (h : KM σ τ) : τ.I 605 = σ.I 605 := funext fun i => h.2 605 i (by unfold wsM; omega)
theorem km_606 {σ τ : Sto} (h : KM σ τ) : τ.I 606 = σ.I 606 := funext fun i => h.2 606 i (by unfold wsM; omega)
theorem km_607 {σ τ : Sto} (h : KM σ τ) : τ.I 607 = σ.I 607 := funext fun i => h.2 607 i (by unfold wsM; omega)
theorem km_608 {σ τ : Sto} (h : KM σ τ) : τ.I 608 = σ.I 608 := funext fun i => h.2 608 i (by unfold wsM; omega)
theorem km_609 {σ τ : Sto} (h : KM σ τ) : τ.I 609 = σ.I 609 := funext fun i => h.2 609 i (by unfold wsM; omega)
theorem km_610 {σ τ : Sto} (h : KM σ τ) : τ.I 610 = σ.I 610 := funext fun i => h.2 610 i (by unfold wsM; omega)
theorem km_611 {σ τ : Sto} (h : KM σ τ) : τ.I 611 = σ.I 611 := funext fun i => h.2 611 i (by unfold wsM; omega)
theorem km_612 {σ τ : Sto} (h : KM σ τ) : τ.I 612 = σ.I 612 := funext fun i => h.2 612 i (by unfold wsM; omega)
theorem km_613 {σ τ : Sto} (h : KM σ τ) : τ.I 613 = σ.I 613 := funext fun i => h.2 613 i (by unfold wsM; omega)
theorem km_614 {σ τ : Sto} (h : KM σ τ) : τ.I 614 = σ.I 614 := funext fun i => h.2 614 i (by unfold wsM; omega)
theorem km_615 {σ τ : Sto} (h : KM σ τ) : τ.I 615 = σ.I 615 := funext fun i => h.2 615 i (by unfold wsM; omega)
theorem km_616 {σ τ : Sto} (h : KM σ τ) : τ.I 616 = σ.I 616 := funext fun i => h.2 616 i (by unfold wsM; omega)
theorem km_617 {σ τ : Sto} (h : KM σ τ) : τ.I 617 = σ.I 617 := funext fun i => h.2 617 i (by unfold wsM; omega)
theorem km_618 {σ τ : Sto} (h : KM σ τ) : τ.I 618 = σ.I 618 := funext fun i => h.2 618 i (by unfold wsM; omega)
theorem km_619 {σ τ : Sto} (h : KM σ τ) : τ.I 619 = σ.I 619 := funext fun i => h.2 619 i (by unfold wsM; omega)
theorem km_620 {σ τ : Sto} (h : KM σ τ) : τ.I 620 = σ.I 620 := funext fun i => h.2 620 i (by unfold wsM; omega)
theorem kmp_558 {σ τ : Sto} (h : KM σ τ) (i : Int) : τ.I 558 i = σ.I 558 i := h.2 558 i (by unfold wsM; omega)
theorem kmp_559 {σ τ : Sto} (h : KM σ τ) (i : Int) : τ.I 559 i = σ.I 559 i := h.2 559 i (by unfold wsM; omega)
theorem kmp_560 {σ τ : Sto} (h : KM σ τ) (i : Int) : τ.I 560 i = σ.I 560 i := h.2 560 i (by unfold wsM; omega)
theorem kmp_561 {σ τ : Sto} (h : KM σ τ) (i : Int) : τ.I 561 i = σ.I 561 i := h.2 561 i (by unfold wsM; omega)
theorem kmp_562 {σ τ : Sto} (h : KM σ τ) (i : Int) : τ.I 562 i = σ.I 562 i := h.2 562 i (by unfold wsM; omega)
theorem kmp_563 {σ τ : Sto} (h : KM σ τ) (i : Int) : τ.I 563 i = σ.I 563 i := h.2 563 i (by unfold wsM; omega)
theorem kmp_564 {σ τ : Sto} (h : KM σ τ) (i : Int) : τ.I 564 i = σ.I 564 i := h.2 564 i (by unfold wsM; omega)
theorem kmp_577 {σ τ : Sto} (h : KM σ τ) (i : Int) : τ.I 577 i = σ.I 577 i := h.2 577 i (by unfold wsM; omega)
theorem kmp_578 {σ τ : Sto} (h : KM σ τ) (i : Int) : τ.I 578 i = σ.I 578 i := h.2 578 i (by unfold wsM; omega)
theorem kmp_579 {σ τ : Sto} (h : KM σ τ) (i : Int) : τ.I 579 i = σ.I 579 i := h.2 579 i (by unfold wsM; omega)
theorem kmp_580 {σ τ : Sto} (h : KM σ τ) (i : Int) : τ.I 580 i = σ.I 580 i := h.2 580 i (by unfold wsM; omega)
theorem kmp_581 {σ τ : Sto} (h : KM σ τ) (i : Int) : τ.I 581 i = σ.I 581 i := h.2 581 i (by unfold wsM; omega)
theorem kmp_582 {σ τ : Sto} (h : KM σ τ) (i : Int) : τ.I 582 i = σ.I 582 i := h.2 582 i (by unfold wsM; omega)
theorem kmp_583 {σ τ : Sto} (h : KM σ τ) (i : Int) : τ.I 583 i = σ.I 583 i := h.2 583 i (by unfold wsM; omega)
theorem kmp_584 {σ τ : Sto} (h : KM σ τ) (i : Int) : τ.I 584 i = σ.I 584 i := h.2 584 i (by unfold wsM; omega)
theorem kmp_585 {σ τ : Sto} (h : KM σ τ) (i : Int) : τ.I 585 i = σ.I 585 i := h.2 585 i (by unfold wsM; omega)
theorem kmp_586 {σ τ : Sto} (h : KM σ τ) (i : Int) : τ.I 586 i = σ.I 586 i := h.2 586 i (by unfold wsM; omega)
theorem kmp_587 {σ τ : Sto} (h : KM σ τ) (i : Int) : τ.I 587 i = σ.I 587 i := h.2 587 i (by unfold wsM; omega)
theorem kmp_588 {σ τ : Sto} (h : KM σ τ) (i : Int) : τ.I 588 i = σ.I 588 i := h.2 588 i (by unfold wsM; omega)
theorem kmp_589 {σ τ : Sto} (h : KM σ τ) (i : Int) : τ.I 589 i = σ.I 589 i := h.2 589 i (by unfold wsM; omega)
theorem kmp_590 {σ τ : Sto} (h : KM σ τ) (i : Int) : τ.I 590 i = σ.I 590 i := h.2 590 i (by unfold wsM; omega)
theorem kmp_591 {σ τ : Sto} (h : KM σ τ) (i : Int) : τ.I 591 i = σ.I 591 i := h.2 591 i (by unfold wsM; omega)
theorem kmp_592 {σ τ : Sto} (h : KM σ τ) (i : Int) : τ.I 592 i = σ.I 592 i := h.2 592 i (by unfold wsM; omega)
theorem kmp_593 {σ τ : Sto} (h : KM σ τ) (i : Int) : τ.I 593 i = σ.I 593 i := h.2 593 i (by unfold wsM; omega)
theorem kmp_594 {σ τ : Sto} (h : KM σ τ) (i : Int) : τ.I 594 i = σ.I 594 i := h.2 594 i (by unfold wsM; omega)
theorem kmp_595 {σ τ : Sto} (h : KM σ τ) (i : Int) : τ.I 595 i = σ.I 595 i := h.2 595 i (by unfold wsM; omega)
theorem kmp_596 {σ τ : Sto} (h : KM σ τ) (i : Int) : τ.I 596 i = σ.I 596 i := h.2 596 i (by unfold wsM; omega)
theorem kmp_597 {σ τ : Sto} (h : KM σ τ) (i : Int) : τ.I 597 i = σ.I 597 i := h.2 597 i (by unfold wsM; omega)
theorem kmp_600 {σ τ : Sto} (h : KM σ τ) (i : Int) : τ.I 600 i = σ.I 600 i := h.2 600 i (by unfold wsM; omega)
theorem kmp_601 {σ τ : Sto} (h : KM σ τ) (i : Int) : τ.I 601 i = σ.I 601 i := h.2 601 i (by unfold wsM; omega)
theorem kmp_602 {σ τ : Sto} (h : KM σ τ) (i : Int) : τ.I 602 i = σ.I 602 i := h.2 602 i (by unfold wsM; omega)
theorem kmp_603 {σ τ : Sto} (h : KM σ τ) (i : Int) : τ.I 603 i = σ.I 603 i := h.2 603 i (by unfold wsM; omega)
theorem kmp_604 {σ τ : Sto} (h : KM σ τ) (i : Int) : τ.I 604 i = σ.I 604 i := h.2 604 i (by unfold wsM; omega)
theorem kmp_605 {σ τ : Sto} (h : KM σ τ) (i : Int) : τ.I 605 i = σ.I 605 i := h.2 605 i (by unfold wsM; omega)
theorem kmp_606 {σ τ : Sto} (h : KM σ τ) (i : Int) : τ.I 606 i = σ.I 606 i := h.2 606 i (by unfold wsM; omega)
theorem kmp_607 {σ τ : Sto} (h : KM σ τ) (i : Int) : τ.I 607 i = σ.I 607 i := h.2 607 i (by unfold wsM; omega)
theorem kmp_608 {σ τ : Sto} (h : KM σ τ) (i : Int) : τ.I 608 i = σ.I 608 i := h.2 608 i (by unfold wsM; omega)
theorem kmp_609 {σ τ : Sto} (h : KM σ τ) (i : Int) : τ.I 609 i = σ.I 609 i := h.2 609 i (by unfold wsM; omega)
theorem kmp_610 {σ τ : Sto} (h : KM σ τ) (i : Int) : τ.I 610 i = σ.I 610 i := h.2 610 i (by unfold wsM; omega)
theorem kmp_611 {σ τ : Sto} (h : KM σ τ) (i : Int) : τ.I 611 i = σ.I 611 i := h.2 611 i (by unfold wsM; omega)
theorem kmp_612 {σ τ : Sto} (h : KM σ τ) (i : Int) : τ.I 612 i = σ.I 612 i := h.2 612 i (by unfold wsM; omega)
theorem kmp_613 {σ τ : Sto} (h : KM σ τ) (i : Int) : τ.I 613 i = σ.I 613 i := h.2 613 i (by unfold wsM; omega)
theorem kmp_614 {σ τ : Sto} (h : KM σ τ) (i : Int) : τ.I 614 i = σ.I 614 i := h.2 614 i (by unfold wsM; omega)
theorem kmp_615 {σ τ : Sto} (h : KM σ τ) (i : Int) : τ.I 615 i = σ.I 615 i := h.2 615 i (by unfold wsM; omega)
theorem kmp_616 {σ τ : Sto} (h : KM σ τ) (i : Int) : τ.I 616 i = σ.I 616 i := h.2 616 i (by unfold wsM; omega)
theorem kmp_617 {σ τ : Sto} (h : KM σ τ) (i : Int) : τ.I 617 i = σ.I 617 i := h.2 617 i (by unfold wsM; omega)
theorem kmp_618 {σ τ : Sto} (h : KM σ τ) (i : Int) : τ.I 618 i = σ.I 618 i := h.2 618 i (by unfold wsM; omega)
theorem kmp_619 {σ τ : Sto} (h : KM σ τ) (i : Int) : τ.I 619 i = σ.I 619 i := h.2 619 i (by unfold wsM; omega)
theorem kmp_620 {σ τ : Sto} (h : KM σ τ) (i : Int) : τ.I 620 i = σ.I 620 i := h.2 620 i (by unfold wsM; omega)
theorem kmf_3 {σ τ : Sto} (h : KM σ τ) : τ.I 555 3 = σ.I 555 3 := h.2 555 3 (by unfold wsM; omega)
theorem kmf_27 {σ τ : Sto} (h : KM σ τ) : τ.I 555 27 = σ.I 555 27 := h.2 555 27 (by unfold wsM; omega)
theorem kmf_30 {σ τ : Sto} (h : KM σ τ) : τ.I 555 30 = σ.I 555 30 := h.2 555 30 (by unfold wsM; omega)
theorem kmf_38 {σ τ : Sto} (h : KM σ τ) : τ.I 555 38 = σ.I 555 38 := h.2 555 38 (by unfold wsM; omega)
theorem kmf_44 {σ τ : Sto} (h : KM σ τ) : τ.I 555 44 = σ.I 555 44 := h.2 555 44 (by unfold wsM; omega)
theorem kmf_45 {σ τ : Sto} (h : KM σ τ) : τ.I 555 45 = σ.I 555 45 := h.2 555 45 (by unfold wsM; omega)
theorem kmf_52 {σ τ : Sto} (h : KM σ τ) : τ.I 555 52 = σ.I 555 52 := h.2 555 52 (by unfold wsM; omega)
theorem kmf_61 {σ τ : Sto} (h : KM σ τ) : τ.I 555 61 = σ.I 555 61 := h.2 555 61 (by unfold wsM; omega)
theorem kmf_66 {σ τ : Sto} (h : KM σ τ) : τ.I 555 66 = σ.I 555 66 := h.2 555 66 (by unfold wsM; omega)
theorem kmf_75 {σ τ : Sto} (h : KM σ τ) : τ.I 555 75 = σ.I 555 75 := h.2 555 75 (by unfold wsM; omega)
theorem kmf_77 {σ τ : Sto} (h : KM σ τ) : τ.I 555 77 = σ.I 555 77 := h.2 555 77 (by unfold wsM; omega)
theorem kmf_80 {σ τ : Sto} (h : KM σ τ) : τ.I 555 80 = σ.I 555 80 := h.2 555 80 (by unfold wsM; omega)
theorem kmf_98 {σ τ : Sto} (h : KM σ τ) : τ.I 555 98 = σ.I 555 98 := h.2 555 98 (by unfold wsM; omega)
/-- what the looking at a term writes -/
def wsQ (c : Nat) (i : Int) : Prop := c = 626 ∨ c = 627 ∨ (c = 555 ∧ i = 100)
abbrev KQ (σ τ : Sto) : Prop := Ch (wsQ) σ τ
theorem KQ_rf {σ : Sto} : KQ σ σ := Ch.rf
theorem KQ_w {σ τ : Sto} {a : Nat} {i v : Int} (e : τ = σ.wI a i v) (h : wsQ a i) : KQ σ τ := by subst e; exact Ch.wI Ch.rf h
theorem KQ_c {σ τ : Sto} {a b : Nat} {i j z : Int} (e : τ = σ.cp a i b j z) (h : ∀ y, j ≤ y → y < j + z → wsQ b y) : KQ σ τ := by subst e; exact Ch.cp Ch.rf h
theorem KQ_rd {σ τ : Sto} {F : Nat → Int → Int} (r : τ.R = σ.R) (s : τ.sh = σ.sh) (n : τ.n = σ.n) (e : τ.I = F) (h : ∀ c i, ¬ wsQ c i → F c i = σ.I c i) : KQ σ τ := ⟨⟨r, s, n⟩, fun c i q => by rw [e]; exact h c i q⟩
theorem kq_586 {σ τ : Sto} (h : KQ σ τ) : τ.I 586 = σ.I 586 := funext fun i => h.2 586 i (by unfold wsQ; omega)
theorem kq_587 {σ τ : Sto} (h : KQ σ τ) : τ.I 587 = σ.I 587 := funext fun i => h.2 587 i (by unfold wsQ; omega)
theorem kq_609 {σ τ : Sto} (h : KQ σ τ) : τ.I 609 = σ.I 609 := funext fun i => h.2 609 i (by unfold wsQ; omega)
theorem kq_617 {σ τ : Sto} (h : KQ σ τ) : τ.I 617 = σ.I 617 := funext fun i => h.2 617 i (by unfold wsQ; omega)
theorem kqp_586 {σ τ : Sto} (h : KQ σ τ) (i : Int) : τ.I 586 i = σ.I 586 i := h.2 586 i (by unfold wsQ; omega)
theorem kqp_587 {σ τ : Sto} (h : KQ σ τ) (i : Int) : τ.I 587 i = σ.I 587 i := h.2 587 i (by unfold wsQ; omega)
theorem kqp_609 {σ τ : Sto} (h : KQ σ τ) (i : Int) : τ.I 609 i = σ.I 609 i := h.2 609 i (by unfold wsQ; omega)
theorem kqp_617 {σ τ : Sto} (h : KQ σ τ) (i : Int) : τ.I 617 i = σ.I 617 i := h.2 617 i (by unfold wsQ; omega)
theorem kqf_80 {σ τ : Sto} (h : KQ σ τ) : τ.I 555 80 = σ.I 555 80 := h.2 555 80 (by unfold wsQ; omega)
theorem kqf_30 {σ τ : Sto} (h : KQ σ τ) : τ.I 555 30 = σ.I 555 30 := h.2 555 30 (by unfold wsQ; omega)
theorem KM_of_KQ {σ τ : Sto} (h : KQ σ τ) : KM σ τ := Ch.mono h (fun c i q => by unfold wsQ at q; unfold wsM; omega)
/-! a loop as what it comes to -/
def itN {S R : Type} (st : S → S ⊕ R) : Nat → S → Option R
  | 0, _ => none
  | k + 1, s => match st s with
    | .inl s' => itN st k s'
    | .inr r => some r
theorem itN_l {S R : Type} {st : S → S ⊕ R} {s s' : S} (h : st s = .inl s') {k : Nat} : itN st (k + 1) s = itN st k s' := by show (match st s with | .inl s' => itN st k s' | .inr r => some r) = _; rw [h]
theorem itN_r {S R : Type} {st : S → S ⊕ R} {s : S} {r : R} (h : st s = .inr r) {k : Nat} : itN st (k + 1) s = some r := by show (match st s with | .inl s' => itN st k s' | .inr r => some r) = _; rw [h]
noncomputable def pickR {R : Type} (d : R) (P : R → Prop) : R := @dite R (∃ r, P r) (Classical.propDecidable _) (fun h => Classical.choose h) (fun _ => d)
theorem pickR_at {R : Type} {d : R} {P : R → Prop} {r : R} (h : ∀ x, P x ↔ x = r) : pickR d P = r := by
  have he : ∃ r, P r := ⟨r, (h r).mpr rfl⟩
  unfold pickR
  rw [dif_pos he]
  exact (h _).mp (Classical.choose_spec he)
noncomputable def rs {S R : Type} (d : R) (st : S → S ⊕ R) (s : S) : R := pickR d (fun r => ∃ k, itN st k s = some r)
theorem rs_s {S R : Type} {d : R} {st : S → S ⊕ R} {s s' : S} (h : st s = .inl s') : rs d st s = rs d st s' := by
  unfold rs
  congr 1
  funext r
  apply propext
  constructor
  · rintro ⟨k, hk⟩
    cases k with
    | zero => cases hk
    | succ k =>
      have e : itN st (k + 1) s = itN st k s' := by show (match st s with | .inl s' => itN st k s' | .inr r => some r) = _; rw [h]
      exact ⟨k, e ▸ hk⟩
  · rintro ⟨k, hk⟩
    refine ⟨k + 1, ?_⟩
    show (match st s with | .inl s' => itN st k s' | .inr r => some r) = _
    rw [h]
    exact hk
theorem rs_e {S R : Type} {d : R} {st : S → S ⊕ R} {s : S} {r : R} (h : st s = .inr r) : rs d st s = r := by
  unfold rs
  refine pickR_at (fun x => ?_)
  constructor
  · rintro ⟨k, hk⟩
    cases k with
    | zero => cases hk
    | succ k =>
      have e : itN st (k + 1) s = some r := by show (match st s with | .inl s' => itN st k s' | .inr r => some r) = _; rw [h]
      rw [e] at hk
      exact (Option.some.inj hk).symm
  · rintro rfl
    refine ⟨1, ?_⟩
    show (match st s with | .inl s' => itN st 0 s' | .inr r => some r) = _
    rw [h]
/-! patterns with * and ?: back to the latest * -/
noncomputable def wdS (P : Int → Int) (m : Int) (A : Int → Int) (a n : Int) : Int × Int × Int × Int → (Int × Int × Int × Int) ⊕ Int := fun s =>
  if s.2.1 < n then
    if s.1 < m ∧ P s.1 = 42 then .inl (s.1 + 1, s.2.1, s.1, s.2.1)
    else if s.1 < m ∧ (P s.1 = 63 ∨ P s.1 = A (a + s.2.1)) then .inl (s.1 + 1, s.2.1 + 1, s.2.2.1, s.2.2.2)
    else if 0 ≤ s.2.2.1 then .inl (s.2.2.1 + 1, s.2.2.2 + 1, s.2.2.1, s.2.2.2 + 1)
    else .inr 0
  else .inr (zb (alF (fun k => P k = 42) s.1 m))
noncomputable def wd (P : Int → Int) (m : Int) (A : Int → Int) (a n p i s f : Int) : Int := rs 0 (wdS P m A a n) (p, i, s, f)
section WD
variable (P : Int → Int) (m : Int) (A : Int → Int) (a n p i s f : Int)
theorem wd_star (h1 : i < n) (h2 : p < m) (h3 : P p = 42) : wd P m A a n p i s f = wd P m A a n (p + 1) i p i := rs_s (by show (if i < n then _ else _) = _; rw [if_pos h1, if_pos ⟨h2, h3⟩])
theorem wd_eat (h1 : i < n) (h2 : p < m) (h3 : P p ≠ 42) (h4 : P p = 63 ∨ P p = A (a + i)) : wd P m A a n p i s f = wd P m A a n (p + 1) (i + 1) s f := rs_s (by show (if i < n then _ else _) = _; rw [if_pos h1, if_neg (fun z => h3 z.2), if_pos ⟨h2, h4⟩])
theorem wd_back (h1 : i < n) (h2 : m ≤ p ∨ (P p ≠ 42 ∧ P p ≠ 63 ∧ P p ≠ A (a + i))) (h3 : 0 ≤ s) : wd P m A a n p i s f = wd P m A a n (s + 1) (f + 1) s (f + 1) := rs_s (by show (if i < n then _ else _) = _; rw [if_pos h1, if_neg (fun z => h2.elim (fun y => absurd z.1 (by show ¬ p < m; omega)) (fun y => y.1 z.2)), if_neg (fun z => h2.elim (fun y => absurd z.1 (by show ¬ p < m; omega)) (fun y => z.2.elim y.2.1 y.2.2)), if_pos h3])
theorem wd_no (h1 : i < n) (h2 : m ≤ p ∨ (P p ≠ 42 ∧ P p ≠ 63 ∧ P p ≠ A (a + i))) (h3 : s < 0) : wd P m A a n p i s f = 0 := rs_e (by show (if i < n then _ else _) = _; rw [if_pos h1, if_neg (fun z => h2.elim (fun y => absurd z.1 (by show ¬ p < m; omega)) (fun y => y.1 z.2)), if_neg (fun z => h2.elim (fun y => absurd z.1 (by show ¬ p < m; omega)) (fun y => z.2.elim y.2.1 y.2.2)), if_neg (by show ¬ 0 ≤ s; omega)])
theorem wd_end (h1 : n ≤ i) : wd P m A a n p i s f = zb (alF (fun k => P k = 42) p m) := rs_e (by show (if i < n then _ else _) = _; rw [if_neg (by omega)])
end WD
/-! by how many changes one row is made another -/
noncomputable def edRow (S T : Nat → Nat → Prop) (i : Nat) (p pp : Nat → Int) : Nat → Int
  | 0 => i + 1
  | j + 1 => if zb (1 ≤ i ∧ 1 ≤ j ∧ T (i + 1) (j + 1)) = 1 then min (min (min (p (j + 1)) (edRow S T i p pp j) + 1) (p j + (1 - zb (S (i + 1) (j + 1))))) (pp (j - 1) + 1) else min (min (p (j + 1)) (edRow S T i p pp j) + 1) (p j + (1 - zb (S (i + 1) (j + 1))))
noncomputable def edR (S T : Nat → Nat → Prop) : Nat → (Nat → Int) × (Nat → Int)
  | 0 => (fun j => j, fun _ => 0)
  | i + 1 => (edRow S T i (edR S T i).1 (edR S T i).2, (edR S T i).1)
def edS (A : Int → Int) (a : Int) (B : Int → Int) (b : Int) (i j : Nat) : Prop := A (a + i - 1) = B (b + j - 1)
def edT (A : Int → Int) (a : Int) (B : Int → Int) (b : Int) (i j : Nat) : Prop := A (a + i - 1) = B (b + j - 2) ∧ A (a + i - 2) = B (b + j - 1)
noncomputable def ed (A : Int → Int) (a : Int) (B : Int → Int) (b i j : Int) : Int := (edR (edS A a B b) (edT A a B b) i.toNat).1 j.toNat
section ED
variable (A : Int → Int) (a : Int) (B : Int → Int) (b i j : Int)
theorem ed_0 (h : i = 0) (hj : 0 ≤ j) : ed A a B b i j = j := by
  subst h
  show ((j.toNat : Nat) : Int) = j
  omega
theorem ed_j0 (hi : 0 ≤ i) (h : j = 0) : ed A a B b i j = i := by
  subst h
  unfold ed
  obtain ⟨k, rfl⟩ : ∃ k : Nat, i = k := ⟨i.toNat, by omega⟩
  rw [Int.toNat_natCast]
  cases k with
  | zero => rfl
  | succ k => rfl
theorem ed_s (hi : 0 < i) (hj : 0 < j) : ed A a B b i j = if 1 < i ∧ 1 < j ∧ A (a + i - 1) = B (b + j - 2) ∧ A (a + i - 2) = B (b + j - 1) then min (min (min (ed A a B b (i - 1) j) (ed A a B b i (j - 1)) + 1) (ed A a B b (i - 1) (j - 1) + (if A (a + i - 1) = B (b + j - 1) then 0 else 1))) (ed A a B b (i - 2) (j - 2) + 1) else min (min (ed A a B b (i - 1) j) (ed A a B b i (j - 1)) + 1) (ed A a B b (i - 1) (j - 1) + (if A (a + i - 1) = B (b + j - 1) then 0 else 1)) := by
  obtain ⟨k, rfl⟩ : ∃ k : Nat, i = (k + 1 : Nat) := ⟨i.toNat - 1, by omega⟩
  obtain ⟨l, rfl⟩ : ∃ l : Nat, j = (l + 1 : Nat) := ⟨j.toNat - 1, by omega⟩
  have e1 : ((k + 1 : Nat) : Int) - 1 = (k : Nat) := by omega
  have e2 : ((l + 1 : Nat) : Int) - 1 = (l : Nat) := by omega
  have e3 : (((k + 1 : Nat) : Int) - 2).toNat = k - 1 := by omega
  have e4 : (((l + 1 : Nat) : Int) - 2).toNat = l - 1 := by omega
  have h0 : (1 - zb (edS A a B b (k + 1) (l + 1))) = if A (a + ((k + 1 : Nat) : Int) - 1) = B (b + ((l + 1 : Nat) : Int) - 1) then 0 else 1 := by
    by_cases q : A (a + ((k + 1 : Nat) : Int) - 1) = B (b + ((l + 1 : Nat) : Int) - 1)
    · rw [if_pos q, zb_t (c := edS A a B b (k + 1) (l + 1)) q]; rfl
    · rw [if_neg q, zb_f (c := edS A a B b (k + 1) (l + 1)) q]; rfl
  have hq : (1 < ((k + 1 : Nat) : Int) ∧ 1 < ((l + 1 : Nat) : Int) ∧ A (a + ((k + 1 : Nat) : Int) - 1) = B (b + ((l + 1 : Nat) : Int) - 2) ∧ A (a + ((k + 1 : Nat) : Int) - 2) = B (b + ((l + 1 : Nat) : Int) - 1)) ↔ (1 ≤ k ∧ 1 ≤ l ∧ edT A a B b (k + 1) (l + 1)) := ⟨fun z => ⟨by omega, by omega, z.2.2.1, z.2.2.2⟩, fun z => ⟨by omega, by omega, z.2.2.1, z.2.2.2⟩⟩
  unfold ed
  rw [e1, e2, e3, e4]
  simp only [Int.toNat_natCast]
  show (if zb (1 ≤ k ∧ 1 ≤ l ∧ edT A a B b (k + 1) (l + 1)) = 1 then _ else _) = _
  rw [h0]
  by_cases q : 1 ≤ k ∧ 1 ≤ l ∧ edT A a B b (k + 1) (l + 1)
  · rw [if_pos (zb_t q), if_pos (hq.mpr q)]
    obtain ⟨k', rfl⟩ : ∃ k' : Nat, k = k' + 1 := ⟨k - 1, by omega⟩
    rfl
  · rw [if_neg (c := zb (1 ≤ k ∧ 1 ≤ l ∧ edT A a B b (k + 1) (l + 1)) = 1) (by rw [zb_f q]; omega), if_neg (fun z => q (hq.mp z))]
    rfl
theorem ed_b (hi : 0 ≤ i) (hj : 0 ≤ j) : (i - j ≤ ed A a B b i j ∧ j - i ≤ ed A a B b i j) ∧ 0 ≤ ed A a B b i j ∧ ed A a B b i j ≤ i + j := by
  have key : ∀ (n : Nat) (i j : Int), 0 ≤ i → 0 ≤ j → (i + j).toNat ≤ n → (i - j ≤ ed A a B b i j ∧ j - i ≤ ed A a B b i j) ∧ 0 ≤ ed A a B b i j ∧ ed A a B b i j ≤ i + j := by
    intro n
    induction n with
    | zero =>
      intro i j hi hj h
      rw [ed_0 A a B b i j (by omega) hj]; omega
    | succ n ih =>
      intro i j hi hj h
      by_cases h0 : i = 0
      · rw [ed_0 A a B b i j h0 hj]; omega
      · by_cases h1 : j = 0
        · rw [ed_j0 A a B b i j hi h1]; omega
        · have x1 := ih (i - 1) j (by omega) hj (by omega)
          have x2 := ih i (j - 1) hi (by omega) (by omega)
          have x3 := ih (i - 1) (j - 1) (by omega) (by omega) (by omega)
          have hs := ed_s A a B b i j (by omega) (by omega)
          by_cases q : 1 < i ∧ 1 < j ∧ A (a + i - 1) = B (b + j - 2) ∧ A (a + i - 2) = B (b + j - 1)
          · have x4 := ih (i - 2) (j - 2) (by omega) (by omega) (by omega)
            rw [if_pos q] at hs
            split at hs <;> omega
          · rw [if_neg q] at hs
            split at hs <;> omega
  exact key _ i j hi hj (Nat.le_refl _)
end ED
/-- the table of changes, w wide, as far as (i, j) -/
def GR (G : Int → Int) (w : Int) (A : Int → Int) (a : Int) (B : Int → Int) (b m i j : Int) : Prop := ∀ k l, 0 ≤ k → 0 ≤ l → l ≤ m → (k < i ∨ k = i ∧ l < j) → G (w * k + l) = ed A a B b k l
theorem GR_at {G : Int → Int} {w : Int} {A : Int → Int} {a : Int} {B : Int → Int} {b m i j : Int} (h : GR G w A a B b m i j) {k l : Int} (h0 : 0 ≤ k) (h1 : 0 ≤ l) (h2 : l ≤ m) (h3 : k < i ∨ k = i ∧ l < j) : G (w * k + l) = ed A a B b k l := h k l h0 h1 h2 h3
theorem GR_0 {G : Int → Int} {w : Int} {A : Int → Int} {a : Int} {B : Int → Int} {b m : Int} : GR G w A a B b m 0 0 := fun k l h0 h1 h2 h3 => by omega
theorem GR_n {G : Int → Int} {w : Int} {A : Int → Int} {a : Int} {B : Int → Int} {b m i j : Int} (h : GR G w A a B b m i j) (hj : m < j) : GR G w A a B b m (i + 1) 0 := fun k l h0 h1 h2 h3 => h k l h0 h1 h2 (by omega)
theorem GR_21 {G H : Int → Int} {A : Int → Int} {a : Int} {B : Int → Int} {b m i j : Int} (h : GR G 21 A a B b m i j) (hm : m ≤ 20) (hj : 0 ≤ j ∧ j ≤ m) (e : H = fun k => if k = 21 * i + j then ed A a B b i j else G k) : GR H 21 A a B b m i (j + 1) := by
  intro k l h0 h1 h2 h3
  rw [e]
  show (if 21 * k + l = 21 * i + j then _ else _) = _
  by_cases q : 21 * k + l = 21 * i + j
  · have : k = i ∧ l = j := by omega
    rw [if_pos q, this.1, this.2]
  · rw [if_neg q]; exact h k l h0 h1 h2 (by rcases h3 with z | z; exact Or.inl z; right; refine ⟨z.1, ?_⟩; have : l ≠ j := fun y => q (by rw [y, z.1]); omega)
theorem GR_22 {G H : Int → Int} {A : Int → Int} {a : Int} {B : Int → Int} {b m i j : Int} (h : GR G 22 A a B b m i j) (hm : m ≤ 20) (hj : 0 ≤ j ∧ j ≤ m) (e : H = fun k => if k = 22 * i + j then ed A a B b i j else G k) : GR H 22 A a B b m i (j + 1) := by
  intro k l h0 h1 h2 h3
  rw [e]
  show (if 22 * k + l = 22 * i + j then _ else _) = _
  by_cases q : 22 * k + l = 22 * i + j
  · have : k = i ∧ l = j := by omega
    rw [if_pos q, this.1, this.2]
  · rw [if_neg q]; exact h k l h0 h1 h2 (by rcases h3 with z | z; exact Or.inl z; right; refine ⟨z.1, ?_⟩; have : l ≠ j := fun y => q (by rw [y, z.1]); omega)

theorem iff1 {x : Int} (h : x = 1) : (1 : Int) = 1 ↔ x = 1 := ⟨fun _ => h, fun _ => rfl⟩
theorem iff0 {x : Int} (h : x = 0) : (0 : Int) = 1 ↔ x = 1 := ⟨fun z => absurd z (by decide), fun z => absurd (z.symm.trans h) (by decide)⟩
theorem alF_e (p : Int → Prop) (i n : Int) (h : n ≤ i) : alF p i n := fun j h1 h2 => by omega

theorem sp_X9_isWild {E : XE} {d : Nat} {σ : Sto} {x1 : Int} (hd : 1 ≤ d) (hL : Lay σ)  (p0 : 0 ≤ x1 ∧ x1 < 24000) (p1 : bd_0_20 σ 587 24000) (p2 : 0 ≤ (σ.I 555 100) ∧ (σ.I 555 100) ≤ 20) : CC E mX9_isWild d [aO 555, aI (x1)] σ (RZ σ (wd (σ.I 626) (σ.I 555 100) (σ.I 586) (20 * x1) (σ.I 587 x1) 0 0 (-1) 0 = 1)) := by sorry
theorem sp_X9_cheapest {E : XE} {d : Nat} {σ : Sto} {o1 : Nat} {n1 : Nat} {x2 : Int} {x3 : Int} {x4 : Int} (hd : 1 ≤ d) (hL : Lay σ) (ho1 : σ.sh o1 = (1, n1)) (p0 : 1 ≤ x2 ∧ x2 ≤ 20 ∧ x2 ≤ n1) (p1 : 1 ≤ x3 ∧ x3 ≤ 20) (p2 : 0 ≤ x4 ∧ x4 < 24000) (p3 : GR (σ.I 627) 21 (σ.I o1) 0 (σ.I 586) (20 * x4) (σ.I 587 x4) x2 x3) (p4 : x3 ≤ σ.I 587 x4) : CC E mX9_cheapest d [aO 555, aO o1, aI (x2), aI (x3), aI (x4)] σ (RI σ (ed (σ.I o1) 0 (σ.I 586) (20 * x4) x2 x3)) := by sorry
theorem sp_X9_changes {E : XE} {d : Nat} {σ : Sto} {o1 : Nat} {n1 : Nat} {x2 : Int} {x3 : Int} (hd : 2 ≤ d) (hL : Lay σ) (ho1 : σ.sh o1 = (1, n1)) (p0 : 0 ≤ x2 ∧ x2 ≤ 20 ∧ x2 ≤ n1) (p1 : 0 ≤ x3 ∧ x3 < 24000) (p2 : bd_0_20 σ 587 24000) (p3 : o1 = 626 ∨ o1 = 557) : CC E mX9_changes d [aO 555, aO o1, aI (x2), aI (x3)] σ (RVI (fun y τ => (y = ed (σ.I o1) 0 (σ.I 586) (20 * x3) x2 (σ.I 587 x3)) ∧ (KQ σ τ))) := by sorry
/-- where the model's question lies -/
def src (σ : Sto) : Nat := (σ.R 555 74).getD 0
def SRC (σ : Sto) : Prop := (σ.R 555 74 = some (src σ) ∧ σ.sh (src σ) = (1, (σ.sh (src σ)).2) ∧ (src σ = 557 ∨ (603 ≤ src σ ∧ src σ ≤ 607) ∨ src σ = 640)) ∧ 0 ≤ σ.I 555 75 ∧ 0 ≤ σ.I 555 77 ∧ σ.I 555 77 ≤ 400 ∧ σ.I 555 75 + σ.I 555 77 ≤ ((σ.sh (src σ)).2 : Int) ∧ σ.I 555 75 ≤ 10000
def qb (σ : Sto) (k : Int) : Int := σ.I (src σ) (σ.I 555 75 + k)
theorem src_k {σ τ : Sto} (h : KM σ τ) : src τ = src σ := by unfold src; rw [h.1.1]
theorem SRC_k {σ τ : Sto} (h : KM σ τ) (g : SRC σ) : SRC τ := by
  unfold SRC
  rw [src_k h, h.1.1, h.1.2.1, kmf_75 h, kmf_77 h]; exact g
theorem qb_k {σ τ : Sto} (h : KM σ τ) (g : SRC σ) : qb τ = qb σ := by
  funext k
  unfold qb
  rw [src_k h, kmf_75 h, h.2 (src σ) _ (by have := g.1.2.2; unfold wsM; omega)]
/-- a node of the model's table is well made -/
def TN (σ : Sto) (n : Int) : Prop := (0 ≤ σ.I 609 n ∧ σ.I 609 n ≤ 12) ∧ (0 ≤ σ.I 614 n ∧ σ.I 614 n ≤ 11) ∧ (0 ≤ σ.I 617 n ∧ σ.I 617 n ≤ 9) ∧ (1 ≤ σ.I 613 n ∧ σ.I 613 n ≤ 10000000000000) ∧ (7 ≤ σ.I 609 n → 0 ≤ σ.I 578 (σ.I 614 n) ∧ σ.I 578 (σ.I 614 n) ≤ 5) ∧
  (0 ≤ σ.I 615 n ∧ (7 ≤ σ.I 609 n → σ.I 615 n ≤ σ.I 616 n ∧ σ.I 616 n ≤ σ.I 555 77)) ∧ (11 ≤ σ.I 609 n → σ.I 616 n ≤ σ.I 615 n + 20) ∧
  (σ.I 609 n = 10 → (-1000000000 ≤ σ.I 618 n ∧ σ.I 618 n ≤ 1000000000) ∧ (-1000000000 ≤ σ.I 619 n ∧ σ.I 619 n ≤ 1000000000) ∧ (0 ≤ σ.I 620 n ∧ σ.I 620 n ≤ 1000000000))
def TW (σ : Sto) : Prop := ∀ n, 0 ≤ n → n < σ.I 555 80 → TN σ n
theorem TW_at {σ : Sto} {n : Int} (h : TW σ) (h0 : 0 ≤ n) (h1 : n < σ.I 555 80) : TN σ n := h n h0 h1
theorem TN_k {σ τ : Sto} (h : KM σ τ) : TN τ = TN σ := by
  funext n
  unfold TN
  rw [km_609 h, km_614 h, km_617 h, km_613 h, km_578 h, km_615 h, km_616 h, kmf_77 h, km_618 h, km_619 h, km_620 h]
theorem TW_k {σ τ : Sto} (h : KM σ τ) (g : TW σ) : TW τ := by
  intro n h0 h1
  rw [kmf_80 h] at h1
  rw [TN_k h]
  exact g n h0 h1
def fo (b : Int) : Int := if 65 ≤ b ∧ b ≤ 90 then b + 32 else b
/-- the pattern of a node -/
def ptM (σ : Sto) (n k : Int) : Int := if σ.I 577 (σ.I 614 n) = 0 ∧ σ.I 558 (σ.I 578 (σ.I 614 n)) = 1 then fo (qb σ (σ.I 615 n + k)) else qb σ (σ.I 615 n + k)
theorem ptM_k {σ τ : Sto} (h : KM σ τ) (g : SRC σ) : ptM τ = ptM σ := by
  funext n k
  unfold ptM
  rw [km_577 h, km_614 h, km_558 h, km_578 h, qb_k h g, km_615 h]
theorem fo_in (b : Int) (h1 : -128 ≤ b) (h2 : b ≤ 127) : (-128 ≤ fo b ∧ fo b ≤ 127) ∧ sx8 (fo b) = fo b := by
  have : -128 ≤ fo b ∧ fo b ≤ 127 := by unfold fo; split <;> omega
  exact ⟨this, sx8_id this.1 this.2⟩

theorem sp_X9_takePattern {E : XE} {d : Nat} {σ : Sto} {x1 : Int} (hd : 2 ≤ d) (hL : Lay σ)  (p0 : 0 ≤ x1 ∧ x1 < σ.I 555 80) (p1 : σ.I 555 80 ≤ 130) (p2 : SRC σ) (p3 : TN σ x1) (p4 : 11 ≤ σ.I 609 x1) : CC E mX9_takePattern d [aO 555, aI (x1)] σ (RV (fun τ => (RD σ τ (fun c i => if rg c i 626 0 (σ.I 616 x1 - (σ.I 615 x1)) then ptM σ x1 i else if at2 c i 555 100 then σ.I 616 x1 - (σ.I 615 x1) else σ.I c i)))) := by sorry
theorem wdS_cg {P P' : Int → Int} {m : Int} {A A' : Int → Int} {a a' n : Int} (hP : ∀ k, 0 ≤ k → k < m → P k = P' k) (hA : ∀ k, 0 ≤ k → k < n → A (a + k) = A' (a' + k)) (p i s f : Int) (h1 : 0 ≤ p) (h2 : 0 ≤ i) : wdS P m A a n (p, i, s, f) = wdS P' m A' a' n (p, i, s, f) := by
  unfold wdS
  show (if i < n then (if p < m ∧ P p = 42 then _ else if p < m ∧ (P p = 63 ∨ P p = A (a + i)) then _ else _) else _) = (if i < n then (if p < m ∧ P' p = 42 then _ else if p < m ∧ (P' p = 63 ∨ P' p = A' (a' + i)) then _ else _) else _)
  by_cases q : i < n
  · rw [if_pos q, if_pos q, hA i h2 q]
    by_cases q2 : p < m
    · rw [hP p h1 q2]
    · have c1 : ¬ (p < m ∧ P p = 42) := fun z => q2 z.1
      have c2 : ¬ (p < m ∧ (P p = 63 ∨ P p = A' (a' + i))) := fun z => q2 z.1
      have c3 : ¬ (p < m ∧ P' p = 42) := fun z => q2 z.1
      have c4 : ¬ (p < m ∧ (P' p = 63 ∨ P' p = A' (a' + i))) := fun z => q2 z.1
      rw [if_neg c1, if_neg c2, if_neg c3, if_neg c4]
  · rw [if_neg q, if_neg q]
    congr 1
    refine zb_iff ⟨fun z k k0 k1 => ?_, fun z k k0 k1 => ?_⟩
    · show P' k = 42
      rw [← hP k (Int.le_trans h1 k0) k1]; exact z k k0 k1
    · show P k = 42
      rw [hP k (Int.le_trans h1 k0) k1]; exact z k k0 k1
theorem wd_cg {P P' : Int → Int} {m : Int} {A A' : Int → Int} {a a' n : Int} (hP : ∀ k, 0 ≤ k → k < m → P k = P' k) (hA : ∀ k, 0 ≤ k → k < n → A (a + k) = A' (a' + k)) : wd P m A a n 0 0 (-1) 0 = wd P' m A' a' n 0 0 (-1) 0 := by
  have key : ∀ (k : Nat) (p i s f : Int), 0 ≤ p → 0 ≤ i → -1 ≤ s → 0 ≤ f → itN (wdS P m A a n) k (p, i, s, f) = itN (wdS P' m A' a' n) k (p, i, s, f) := by
    intro k
    induction k with
    | zero => intros; rfl
    | succ k ih =>
      intro p i s f h1 h2 h3 h4
      have e0 := wdS_cg hP hA p i s f h1 h2
      have e : wdS P' m A' a' n (p, i, s, f) = if i < n then (if p < m ∧ P' p = 42 then .inl (p + 1, i, p, i) else if p < m ∧ (P' p = 63 ∨ P' p = A' (a' + i)) then .inl (p + 1, i + 1, s, f) else if 0 ≤ s then .inl (s + 1, f + 1, s, f + 1) else .inr 0) else .inr (zb (alF (fun k => P' k = 42) p m)) := rfl
      by_cases q1 : i < n
      · rw [if_pos q1] at e
        by_cases q2 : p < m ∧ P' p = 42
        · rw [if_pos q2] at e; rw [itN_l (e0.trans e), itN_l e]; exact ih _ _ _ _ (by omega) (by omega) (by omega) (by omega)
        · rw [if_neg q2] at e
          by_cases q3 : p < m ∧ (P' p = 63 ∨ P' p = A' (a' + i))
          · rw [if_pos q3] at e; rw [itN_l (e0.trans e), itN_l e]; exact ih _ _ _ _ (by omega) (by omega) (by omega) (by omega)
          · rw [if_neg q3] at e
            by_cases q4 : 0 ≤ s
            · rw [if_pos q4] at e; rw [itN_l (e0.trans e), itN_l e]; exact ih _ _ _ _ (by omega) (by omega) (by omega) (by omega)
            · rw [if_neg q4] at e; rw [itN_r (e0.trans e), itN_r e]
      · rw [if_neg q1] at e; rw [itN_r (e0.trans e), itN_r e]
  unfold wd rs
  congr 1
  funext r
  apply propext
  constructor
  · rintro ⟨k, hk⟩; exact ⟨k, by rw [← key k 0 0 (-1) 0 (by omega) (by omega) (by omega) (by omega)]; exact hk⟩
  · rintro ⟨k, hk⟩; exact ⟨k, by rw [key k 0 0 (-1) 0 (by omega) (by omega) (by omega) (by omega)]; exact hk⟩
theorem ed_cg {A A' : Int → Int} {a a' : Int} {B B' : Int → Int} {b b' : Int} {m n : Int} (hA : ∀ k, 0 ≤ k → k < m → A (a + k) = A' (a' + k)) (hB : ∀ k, 0 ≤ k → k < n → B (b + k) = B' (b' + k)) : ∀ i j, 0 ≤ i → i ≤ m → 0 ≤ j → j ≤ n → ed A a B b i j = ed A' a' B' b' i j := by
  have key : ∀ (k : Nat) (i j : Int), (i + j).toNat ≤ k → 0 ≤ i → i ≤ m → 0 ≤ j → j ≤ n → ed A a B b i j = ed A' a' B' b' i j := by
    intro k
    induction k with
    | zero =>
      intro i j h h1 h2 h3 h4
      rw [ed_0 _ _ _ _ i j (by omega) h3, ed_0 _ _ _ _ i j (by omega) h3]
    | succ k ih =>
      intro i j h h1 h2 h3 h4
      by_cases h0 : i = 0
      · rw [ed_0 _ _ _ _ i j h0 h3, ed_0 _ _ _ _ i j h0 h3]
      · by_cases h5 : j = 0
        · rw [ed_j0 _ _ _ _ i j h1 h5, ed_j0 _ _ _ _ i j h1 h5]
        · rw [ed_s A a B b i j (by omega) (by omega), ed_s A' a' B' b' i j (by omega) (by omega)]
          have g1 : A (a + i - 1) = A' (a' + i - 1) := by have := hA (i - 1) (by omega) (by omega); rw [show a + i - 1 = a + (i - 1) by omega, show a' + i - 1 = a' + (i - 1) by omega]; exact this
          have g2 : B (b + j - 1) = B' (b' + j - 1) := by have := hB (j - 1) (by omega) (by omega); rw [show b + j - 1 = b + (j - 1) by omega, show b' + j - 1 = b' + (j - 1) by omega]; exact this
          rw [ih (i - 1) j (by omega) (by omega) (by omega) (by omega) (by omega), ih i (j - 1) (by omega) (by omega) (by omega) (by omega) (by omega), ih (i - 1) (j - 1) (by omega) (by omega) (by omega) (by omega) (by omega), g1, g2]
          by_cases q : 1 < i ∧ 1 < j
          · have g3 : A (a + i - 2) = A' (a' + i - 2) := by have := hA (i - 2) (by omega) (by omega); rw [show a + i - 2 = a + (i - 2) by omega, show a' + i - 2 = a' + (i - 2) by omega]; exact this
            have g4 : B (b + j - 2) = B' (b' + j - 2) := by have := hB (j - 2) (by omega) (by omega); rw [show b + j - 2 = b + (j - 2) by omega, show b' + j - 2 = b' + (j - 2) by omega]; exact this
            rw [ih (i - 2) (j - 2) (by omega) (by omega) (by omega) (by omega) (by omega), g3, g4]
          · have c1 : ¬ (1 < i ∧ 1 < j ∧ A' (a' + i - 1) = B (b + j - 2) ∧ A (a + i - 2) = B' (b' + j - 1)) := fun z => q ⟨z.1, z.2.1⟩
            have c2 : ¬ (1 < i ∧ 1 < j ∧ A' (a' + i - 1) = B' (b' + j - 2) ∧ A' (a' + i - 2) = B' (b' + j - 1)) := fun z => q ⟨z.1, z.2.1⟩
            rw [if_neg c1, if_neg c2]
  intro i j h1 h2 h3 h4
  exact key _ i j (Nat.le_refl _) h1 h2 h3 h4
/-- a term fits a leaf with a pattern -/
def fitM (σ : Sto) (n t : Int) : Prop := (σ.I 609 n = 11 ∧ wd (ptM σ n) (σ.I 616 n - σ.I 615 n) (σ.I 586) (20 * t) (σ.I 587 t) 0 0 (-1) 0 = 1) ∨ (σ.I 609 n ≠ 11 ∧ ed (ptM σ n) 0 (σ.I 586) (20 * t) (σ.I 616 n - σ.I 615 n) (σ.I 587 t) ≤ σ.I 617 n)
theorem fitM_k {σ τ : Sto} (h : KM σ τ) (g : SRC σ) : fitM τ = fitM σ := by
  funext n t
  unfold fitM
  rw [km_609 h, ptM_k h g, km_616 h, km_615 h, km_586 h, km_587 h, km_617 h]
/-- a value fits a leaf -/
def lfM (σ : Sto) (n v : Int) : Prop := (σ.I 609 n = 9 ∧ σ.I 618 n ≤ σ.I 583 v ∧ σ.I 583 v ≤ σ.I 619 n) ∨ (σ.I 609 n = 10 ∧ (σ.I 584 (4 * v) - σ.I 618 n) * (σ.I 584 (4 * v) - σ.I 618 n) + (σ.I 584 (4 * v + 1) - σ.I 619 n) * (σ.I 584 (4 * v + 1) - σ.I 619 n) ≤ σ.I 620 n * σ.I 620 n) ∨
  (11 ≤ σ.I 609 n ∧ exN (fun j => fitM σ n (σ.I 582 v + j)) (tcM σ v))
theorem tcM_k {σ τ : Sto} (h : KM σ τ) : tcM τ = tcM σ := by funext v; unfold tcM; rw [km_582 h]
theorem lfM_k {σ τ : Sto} (h : KM σ τ) (g : SRC σ) : lfM τ = lfM σ := by
  funext n v
  unfold lfM
  rw [km_609 h, fitM_k h g, tcM_k h, km_618 h, km_619 h, km_583 h, km_584 h, km_620 h, km_582 h]
def hlM (σ : Sto) (n o : Int) : Prop := exN (fun j => mV σ (σ.I 614 n) (σ.I 595 o + j) ∧ lfM σ n (σ.I 595 o + j)) (σ.I 596 o)
theorem mV_k {σ τ : Sto} (h : KM σ τ) : mV τ = mV σ := by funext f v; unfold mV; rw [km_579 h, km_602 h]
theorem hlM_k {σ τ : Sto} (h : KM σ τ) (g : SRC σ) : hlM τ = hlM σ := by
  funext n o
  unfold hlM
  rw [mV_k h, lfM_k h g, km_614 h, km_595 h, km_596 h]
theorem VT_k {σ τ : Sto} {n : Int} (h : KM σ τ) (g : VT σ n) : VT τ n := by
  unfold VT; rw [tcM_k h, km_582 h]; exact g
theorem OBM_k {σ τ : Sto} (h : KM σ τ) (g : OB σ 595 596) : OB τ 595 596 := by
  unfold OB; rw [km_595 h, km_596 h]; exact g
/-- PLACES and their numbers -/
def NB (σ : Sto) : Prop := ∀ v, 0 ≤ v → v < 24000 → -1000000 ≤ σ.I 584 v ∧ σ.I 584 v ≤ 1000000
theorem NB_at {σ : Sto} {v : Int} (h : NB σ) (h0 : 0 ≤ v) (h1 : v < 24000) : σ.I 584 v = -1000000 ∨ (-1000000 < σ.I 584 v ∧ σ.I 584 v ≤ 1000000) := by have := h v h0 h1; omega
theorem NB_k {σ τ : Sto} (h : KM σ τ) (g : NB σ) : NB τ := by unfold NB; rw [km_584 h]; exact g
end
section
/-! contracts: printed by tools/mk.py out of s42b_leaf.py -/
set_option maxRecDepth 100000
set_option maxHeartbeats 1500000
theorem fitM_q {σ τ : Sto} (h : KQ σ τ) (g : SRC σ) : fitM τ = fitM σ := fitM_k (KM_of_KQ h) g
theorem tcM_q {σ τ : Sto} (h : KQ σ τ) : tcM τ = tcM σ := tcM_k (KM_of_KQ h)
theorem lfM_q {σ τ : Sto} (h : KQ σ τ) (g : SRC σ) : lfM τ = lfM σ := lfM_k (KM_of_KQ h) g
theorem mV_q {σ τ : Sto} (h : KQ σ τ) : mV τ = mV σ := mV_k (KM_of_KQ h)
theorem TW_q {σ τ : Sto} (h : KQ σ τ) (g : TW σ) : TW τ := TW_k (KM_of_KQ h) g
theorem SRC_q {σ τ : Sto} (h : KQ σ τ) (g : SRC σ) : SRC τ := SRC_k (KM_of_KQ h) g
theorem NB_q {σ τ : Sto} (h : KQ σ τ) (g : NB σ) : NB τ := NB_k (KM_of_KQ h) g
theorem VT_q {σ τ : Sto} {n : Int} (h : KQ σ τ) (g : VT σ n) : VT τ n := VT_k (KM_of_KQ h) g
theorem OBM_q {σ τ : Sto} (h : KQ σ τ) (g : OB σ 595 596) : OB τ 595 596 := OBM_k (KM_of_KQ h) g

theorem sp_X9_fitsTerm {E : XE} {d : Nat} {σ : Sto} {x1 : Int} {x2 : Int} (hd : 4 ≤ d) (hL : Lay σ)  (p0 : 0 ≤ x1 ∧ x1 < σ.I 555 80) (p1 : σ.I 555 80 ≤ 130) (p2 : SRC σ) (p3 : TW σ) (p4 : 11 ≤ σ.I 609 x1) (p5 : 0 ≤ x2 ∧ x2 < 24000) (p6 : bd_0_20 σ 587 24000) : CC E mX9_fitsTerm d [aO 555, aI (x1), aI (x2)] σ (RVZ (fun y τ => (y = 1 ↔ fitM σ x1 x2) ∧ (KQ σ τ))) := by sorry
theorem sq_bd {x : Int} {b : Int} (h1 : -b ≤ x) (h2 : x ≤ b) : 0 ≤ x * x ∧ x * x ≤ b * b := by
  refine ⟨?_, ?_⟩
  · rcases Int.le_total 0 x with h | h
    · exact Int.mul_nonneg h h
    · exact Int.mul_nonneg_of_nonpos_of_nonpos h h
  · rcases Int.le_total 0 x with h | h
    · exact Int.mul_le_mul h2 h2 h (by omega)
    · have := Int.mul_le_mul (a := -x) (b := -x) (c := b) (d := b) (by omega) (by omega) (by omega) (by omega)
      rwa [Int.neg_mul_neg] at this

theorem sp_X9_isLeafValue {E : XE} {d : Nat} {σ : Sto} {x1 : Int} {x2 : Int} (hd : 5 ≤ d) (hL : Lay σ)  (p0 : 0 ≤ x1 ∧ x1 < σ.I 555 80) (p1 : σ.I 555 80 ≤ 130) (p2 : SRC σ) (p3 : TW σ) (p4 : 9 ≤ σ.I 609 x1) (p5 : 0 ≤ x2 ∧ x2 < σ.I 555 30 ∧ σ.I 555 30 ≤ 6000) (p6 : bd_0_20 σ 587 24000) (p7 : VT σ (σ.I 555 30)) (p8 : NB σ) : CC E mX9_isLeafValue d [aO 555, aI (x1), aI (x2)] σ (RVZ (fun y τ => (y = 1 ↔ lfM σ x1 x2) ∧ (KQ σ τ))) := by sorry
theorem sp_X9_hasLeaf {E : XE} {d : Nat} {σ : Sto} {x1 : Int} {x2 : Int} (hd : 6 ≤ d) (hL : Lay σ)  (p0 : 0 ≤ x1 ∧ x1 < σ.I 555 80) (p1 : σ.I 555 80 ≤ 130) (p2 : SRC σ) (p3 : TW σ) (p4 : 9 ≤ σ.I 609 x1) (p5 : 0 ≤ x2 ∧ x2 < 601) (p6 : bd_0_20 σ 587 24000) (p7 : VT σ (σ.I 555 30)) (p8 : NB σ) (p9 : OB σ 595 596) (p10 : σ.I 595 x2 + σ.I 596 x2 ≤ σ.I 555 30 ∧ σ.I 555 30 ≤ 6000) : CC E mX9_hasLeaf d [aO 555, aI (x1), aI (x2)] σ (RVZ (fun y τ => (y = 1 ↔ hlM σ x1 x2) ∧ (KQ σ τ))) := by sorry
end
section
/-! contracts: printed by tools/mk.py out of s43_match.py -/
set_option maxRecDepth 100000
set_option maxHeartbeats 1500000
/-- what the giving of positions writes -/
def wsT (c : Nat) (i : Int) : Prop := (c = 635 ∨ c = 636) ∧ i = i
abbrev KT (σ τ : Sto) : Prop := Ch wsT σ τ
theorem KT_rf {σ : Sto} : KT σ σ := Ch.rf
theorem KT_w {σ τ : Sto} {a : Nat} {i v : Int} (e : τ = σ.wI a i v) (h : wsT a i) : KT σ τ := by subst e; exact Ch.wI Ch.rf h
theorem KM_of_KT {σ τ : Sto} (h : KT σ τ) : KM σ τ := Ch.mono h (fun c i q => by unfold wsT at q; unfold wsM; omega)
theorem kt_at {σ τ : Sto} (h : KT σ τ) (c : Nat) (hc : c ≠ 635 ∧ c ≠ 636) : τ.I c = σ.I c := funext fun i => h.2 c i (by unfold wsT; omega)
theorem kt_634 {σ τ : Sto} (h : KT σ τ) : τ.I 634 = σ.I 634 := kt_at h _ (by decide)
theorem kt_633 {σ τ : Sto} (h : KT σ τ) : τ.I 633 = σ.I 633 := kt_at h _ (by decide)
theorem kt_555 {σ τ : Sto} (h : KT σ τ) : τ.I 555 = σ.I 555 := kt_at h _ (by decide)
def up1 (T : Int → Int) (y v : Int) : Int → Int := fun k => if k = y then v else T k
abbrev FR : Type := Int × (Int → Int) × (Int → Int)
/-- place p looks for a position from y on: a free one, or one whose place finds another -/
noncomputable def fpN (S : Int → Int → Prop) (PP : Int → Int) (w sl : Int) : Nat → Int → Int → (Int → Int) → (Int → Int) → Option FR
  | 0, _, _, _, _ => none
  | k + 1, p, y, T, R =>
    if w + sl + PP p < y then some (0, T, R)
    else if zb (R y = 1 ∨ ¬ S p y ∨ T y = 0) = 1 then fpN S PP w sl k p (y + 1) T R
    else if T y < 0 then some (1, up1 T y p, up1 R y 1)
    else match fpN S PP w sl k (T y) (max 0 (w + PP (T y))) T (up1 R y 1) with
      | none => none
      | some r => if r.1 = 1 then some (1, up1 r.2.1 y p, r.2.2) else fpN S PP w sl k p (y + 1) r.2.1 r.2.2
def FP (S : Int → Int → Prop) (PP : Int → Int) (w sl p y : Int) (T R : Int → Int) (r : FR) : Prop := ∃ k, fpN S PP w sl k p y T R = some r
section FPS
variable {S : Int → Int → Prop} {PP : Int → Int} {w sl : Int}
theorem fpN_m : ∀ (k : Nat) (p y : Int) (T R : Int → Int) (r : FR), fpN S PP w sl k p y T R = some r → fpN S PP w sl (k + 1) p y T R = some r := by
  intro k
  induction k with
  | zero => intro p y T R r h; cases h
  | succ k ih =>
    intro p y T R r h
    unfold fpN at h ⊢
    by_cases c1 : w + sl + PP p < y
    · rw [if_pos c1] at h ⊢; exact h
    · rw [if_neg c1] at h ⊢
      by_cases c2 : zb (R y = 1 ∨ ¬ S p y ∨ T y = 0) = 1
      · rw [if_pos c2] at h ⊢; exact ih _ _ _ _ _ h
      · rw [if_neg c2] at h ⊢
        by_cases c3 : T y < 0
        · rw [if_pos c3] at h ⊢; exact h
        · rw [if_neg c3] at h ⊢
          cases q : fpN S PP w sl k (T y) (max 0 (w + PP (T y))) T (up1 R y 1) with
          | none => rw [q] at h; cases h
          | some r1 =>
            rw [q] at h
            rw [ih _ _ _ _ _ q]
            simp only at h ⊢
            by_cases c4 : r1.1 = 1
            · rw [if_pos c4] at h ⊢; exact h
            · rw [if_neg c4] at h ⊢; exact ih _ _ _ _ _ h
theorem fpN_le {k k' : Nat} (hk : k ≤ k') {p y : Int} {T R : Int → Int} {r : FR} (h : fpN S PP w sl k p y T R = some r) : fpN S PP w sl k' p y T R = some r := by
  induction hk with
  | refl => exact h
  | step _ ih => exact fpN_m _ _ _ _ _ _ ih
theorem FP_det {p y : Int} {T R : Int → Int} {r r' : FR} (h : FP S PP w sl p y T R r) (h' : FP S PP w sl p y T R r') : r = r' := by
  obtain ⟨k, hk⟩ := h
  obtain ⟨k', hk'⟩ := h'
  have a := fpN_le (Nat.le_max_left k k') hk
  have b := fpN_le (Nat.le_max_right k k') hk'
  exact Option.some.inj (a.symm.trans b)
theorem FP_end {p y : Int} {T R : Int → Int} (h : w + sl + PP p < y) : FP S PP w sl p y T R (0, T, R) := ⟨1, by unfold fpN; rw [if_pos h]⟩
theorem FP_skip {p y : Int} {T R : Int → Int} {r : FR} (h : y ≤ w + sl + PP p) (hc : R y = 1 ∨ ¬ S p y ∨ T y = 0) (hr : FP S PP w sl p (y + 1) T R r) : FP S PP w sl p y T R r := by
  obtain ⟨k, hk⟩ := hr
  exact ⟨k + 1, by unfold fpN; rw [if_neg (by omega), if_pos (zb_t hc)]; exact hk⟩
theorem FP_free {p y : Int} {T R : Int → Int} (h : y ≤ w + sl + PP p) (hc : ¬ (R y = 1 ∨ ¬ S p y ∨ T y = 0)) (ht : T y < 0) : FP S PP w sl p y T R (1, up1 T y p, up1 R y 1) := ⟨1, by unfold fpN; rw [if_neg (by omega), if_neg (by rw [zb_f hc]; omega), if_pos ht]⟩
theorem FP_yes {p y : Int} {T R : Int → Int} {r : FR} (h : y ≤ w + sl + PP p) (hc : ¬ (R y = 1 ∨ ¬ S p y ∨ T y = 0)) (ht : 0 ≤ T y) (hr : FP S PP w sl (T y) (max 0 (w + PP (T y))) T (up1 R y 1) r) (h1 : r.1 = 1) : FP S PP w sl p y T R (1, up1 r.2.1 y p, r.2.2) := by
  obtain ⟨k, hk⟩ := hr
  refine ⟨k + 1, ?_⟩
  unfold fpN
  rw [if_neg (by omega), if_neg (by rw [zb_f hc]; omega), if_neg (by omega), hk]
  show (if r.1 = 1 then _ else _) = _
  rw [if_pos h1]
theorem FP_no {p y : Int} {T R : Int → Int} {r r2 : FR} (h : y ≤ w + sl + PP p) (hc : ¬ (R y = 1 ∨ ¬ S p y ∨ T y = 0)) (ht : 0 ≤ T y) (hr : FP S PP w sl (T y) (max 0 (w + PP (T y))) T (up1 R y 1) r) (h1 : r.1 ≠ 1) (h2 : FP S PP w sl p (y + 1) r.2.1 r.2.2 r2) : FP S PP w sl p y T R r2 := by
  obtain ⟨k, hk⟩ := hr
  obtain ⟨k2, hk2⟩ := h2
  refine ⟨max k k2 + 1, ?_⟩
  unfold fpN
  rw [if_neg (by omega), if_neg (by rw [zb_f hc]; omega), if_neg (by omega), fpN_le (Nat.le_max_left k k2) hk]
  show (if r.1 = 1 then _ else _) = _
  rw [if_neg h1]
  exact fpN_le (Nat.le_max_right k k2) hk2
theorem FP_none {p y : Int} {T R : Int → Int} (h : ∀ z, y ≤ z → z ≤ w + sl + PP p → ¬ S p z) : FP S PP w sl p y T R (0, T, R) := by
  obtain ⟨n, hn⟩ : ∃ n : Nat, (w + sl + PP p - y + 1).toNat = n := ⟨_, rfl⟩
  induction n generalizing y with
  | zero => exact FP_end (by omega)
  | succ n ih => exact FP_skip (by omega) (Or.inr (Or.inl (h y (by omega) (by omega)))) (ih (fun z h1 h2 => h z (by omega) h2) (by omega))
end FPS
def stS (σ : Sto) (p y : Int) : Prop := (0 ≤ y ∧ y ≤ σ.I 555 113) ∧ σ.I 634 (1024 * p + y) = 1
theorem stS_k {σ τ : Sto} (h : KT σ τ) : stS τ = stS σ := by
  funext p y
  unfold stS
  rw [kt_555 h, kt_634 h]
/-- how many are not tried yet -/
noncomputable def un (R : Int → Int) (n : Int) : Int := cn (fun y => R y ≠ 1) n
theorem un_up {R : Int → Int} {y n : Int} (h0 : 0 ≤ y) (h1 : y < n) (hr : R y ≠ 1) : un (up1 R y 1) n + 1 = un R n := by
  unfold un cn
  have key : ∀ m : Nat, cnN (fun z => up1 R y 1 z ≠ 1) m + (if y < m then 1 else 0) = cnN (fun z => R z ≠ 1) m := by
    intro m
    induction m with
    | zero => show (0 : Int) + (if y < ((0 : Nat) : Int) then 1 else 0) = 0; rw [if_neg (by omega)]; rfl
    | succ m ih =>
      show cnN (fun z => up1 R y 1 z ≠ 1) m + zb (up1 R y 1 m ≠ 1) + (if y < ((m + 1 : Nat) : Int) then 1 else 0) = cnN (fun z => R z ≠ 1) m + zb (R m ≠ 1)
      by_cases e : (m : Int) = y
      · have e1 : up1 R y 1 m = 1 := by unfold up1; rw [if_pos e]
        rw [zb_f (fun z => z e1), if_pos (by omega), e, zb_t hr, ← ih, if_neg (by omega)]
      · have e1 : up1 R y 1 m = R m := by unfold up1; rw [if_neg e]
        rw [e1, ← ih]
        by_cases e2 : y < m
        · rw [if_pos e2, if_pos (by omega)]; omega
        · rw [if_neg e2, if_neg (by omega)]; omega
  have := key n.toNat
  rw [if_pos (by omega)] at this
  exact this
theorem un_in (R : Int → Int) (n : Int) : un R n = 0 ∨ (0 < un R n ∧ un R n ≤ n) := cn_in _ n

abbrev RC_X9_findPosition (E : XE) (k : Nat) : Prop := ∀ {d : Nat} {σ : Sto} {x1 : Int} {x2 : Int} {x3 : Int}, k + 2 ≤ d → Lay σ → (1 ≤ x1 ∧ x1 < 16) → (-9 ≤ x2 ∧ x2 ≤ 1000) → (0 ≤ x3 ∧ x3 ≤ 9) → (0 ≤ σ.I 555 113 ∧ σ.I 555 113 < 1000) → (bd_0_500 σ 633 16) → (bd_m1_15 σ 635 1024) → (un (σ.I 636) (σ.I 555 113 + 1) ≤ k) → CC E mX9_findPosition d [aO 555, aI (x1), aI (x2), aI (x3)] σ (RVZ (fun y τ => (FP (stS σ) (σ.I 633) x2 x3 x1 (max 0 (x2 + σ.I 633 x1)) (σ.I 635) (σ.I 636) (y, τ.I 635, τ.I 636)) ∧ (bd_m1_15 τ 635 1024) ∧ (un (τ.I 636) (σ.I 555 113 + 1) ≤ un (σ.I 636) (σ.I 555 113 + 1)) ∧ (KT σ τ)))
theorem sp_X9_findPosition {E : XE} {d : Nat} {σ : Sto} {k : Nat} {x1 : Int} {x2 : Int} {x3 : Int} (hd : k + 2 ≤ d) (hL : Lay σ)  (p0 : 1 ≤ x1 ∧ x1 < 16) (p1 : -9 ≤ x2 ∧ x2 ≤ 1000) (p2 : 0 ≤ x3 ∧ x3 ≤ 9) (p3 : 0 ≤ σ.I 555 113 ∧ σ.I 555 113 < 1000) (p4 : bd_0_500 σ 633 16) (p5 : bd_m1_15 σ 635 1024) (p6 : un (σ.I 636) (σ.I 555 113 + 1) ≤ k) (p7 : ∀ j, j < k → RC_X9_findPosition E j) : CC E mX9_findPosition d [aO 555, aI (x1), aI (x2), aI (x3)] σ (RVZ (fun y τ => (FP (stS σ) (σ.I 633) x2 x3 x1 (max 0 (x2 + σ.I 633 x1)) (σ.I 635) (σ.I 636) (y, τ.I 635, τ.I 636)) ∧ (bd_m1_15 τ 635 1024) ∧ (un (τ.I 636) (σ.I 555 113 + 1) ≤ un (σ.I 636) (σ.I 555 113 + 1)) ∧ (KT σ τ))) := by sorry
theorem rc_X9_findPosition {E : XE} : ∀ (k : Nat), RC_X9_findPosition E k := by
  intro  k
  induction k using Nat.strongRecOn with
  | ind k ih =>
    intro d σ x1 x2 x3 hd hL  p0 p1 p2 p3 p4 p5 p6
    exact sp_X9_findPosition hd hL  p0 p1 p2 p3 p4 p5 p6 ih
theorem sx_X9_findPosition {E : XE} {d : Nat} {σ : Sto} {k : Nat} {x1 : Int} {x2 : Int} {x3 : Int} (hd : k + 2 ≤ d) (hL : Lay σ)  (p0 : 1 ≤ x1 ∧ x1 < 16) (p1 : -9 ≤ x2 ∧ x2 ≤ 1000) (p2 : 0 ≤ x3 ∧ x3 ≤ 9) (p3 : 0 ≤ σ.I 555 113 ∧ σ.I 555 113 < 1000) (p4 : bd_0_500 σ 633 16) (p5 : bd_m1_15 σ 635 1024) (p6 : un (σ.I 636) (σ.I 555 113 + 1) ≤ k) : CC E mX9_findPosition d [aO 555, aI (x1), aI (x2), aI (x3)] σ (RVZ (fun y τ => (FP (stS σ) (σ.I 633) x2 x3 x1 (max 0 (x2 + σ.I 633 x1)) (σ.I 635) (σ.I 636) (y, τ.I 635, τ.I 636)) ∧ (bd_m1_15 τ 635 1024) ∧ (un (τ.I 636) (σ.I 555 113 + 1) ≤ un (σ.I 636) (σ.I 555 113 + 1)) ∧ (KT σ τ))) := rc_X9_findPosition k hd hL  p0 p1 p2 p3 p4 p5 p6
/-- two states of the giving that are alike where tokens stand -/
def ALk (P Y : Int → Prop) (x0 : Int) (T R T' R' : Int → Int) : Prop := T x0 = 0 ∧ ∀ z, Y z → T z = T' z ∧ (z ≠ x0 → R z = R' z) ∧ (0 < T z → P (T z))
theorem ALk_up {P Y : Int → Prop} {x0 : Int} {T R T' R' : Int → Int} {y p : Int} (h : ALk P Y x0 T R T' R') (hy : y ≠ x0) (hp : P p) : ALk P Y x0 (up1 T y p) R (up1 T' y p) R' := by
  refine ⟨by unfold up1; rw [if_neg (fun z => hy z.symm)]; exact h.1, fun z hz => ?_⟩
  obtain ⟨a, b, c⟩ := h.2 z hz
  unfold up1
  by_cases q : z = y
  · rw [if_pos q, if_pos q]; exact ⟨rfl, b, fun _ => hp⟩
  · rw [if_neg q, if_neg q]; exact ⟨a, b, c⟩
theorem ALk_upR {P Y : Int → Prop} {x0 : Int} {T R T' R' : Int → Int} {y : Int} (h : ALk P Y x0 T R T' R') : ALk P Y x0 T (up1 R y 1) T' (up1 R' y 1) := by
  refine ⟨h.1, fun z hz => ?_⟩
  obtain ⟨a, b, c⟩ := h.2 z hz
  refine ⟨a, fun q => ?_, c⟩
  unfold up1
  by_cases e : z = y
  · rw [if_pos e, if_pos e]
  · rw [if_neg e, if_neg e]; exact b q
theorem FP_cgN {S S' : Int → Int → Prop} {PP PP' : Int → Int} {w sl x0 : Int} {P Y : Int → Prop} (hY : ∀ p y, P p → S p y → Y y) (hS : ∀ p y, P p → (S p y ↔ S' p y)) (hPP : ∀ p, P p → PP p = PP' p) :
    ∀ (k : Nat) (p y : Int) (T R T' R' : Int → Int) (r : FR), P p → ALk P Y x0 T R T' R' → fpN S PP w sl k p y T R = some r →
      ∃ r' : FR, fpN S' PP' w sl k p y T' R' = some r' ∧ r'.1 = r.1 ∧ ALk P Y x0 r.2.1 r.2.2 r'.2.1 r'.2.2 := by
  intro k
  induction k with
  | zero => intro p y T R T' R' r hp h e; cases e
  | succ k ih =>
    intro p y T R T' R' r hp h e
    unfold fpN at e ⊢
    rw [← hPP p hp]
    by_cases c1 : w + sl + PP p < y
    · rw [if_pos c1] at e ⊢
      cases e
      exact ⟨_, rfl, rfl, h⟩
    · rw [if_neg c1] at e ⊢
      by_cases c2 : R y = 1 ∨ ¬ S p y ∨ T y = 0
      · have c2' : R' y = 1 ∨ ¬ S' p y ∨ T' y = 0 := by
          by_cases hs : S p y
          · obtain ⟨a, b, -⟩ := h.2 y (hY p y hp hs)
            by_cases t0 : T y = 0
            · exact Or.inr (Or.inr (by rw [← a]; exact t0))
            · rcases c2 with z | z | z
              · exact Or.inl (by rw [← b (fun e => t0 (by rw [e]; exact h.1))]; exact z)
              · exact absurd hs z
              · exact absurd z t0
          · exact Or.inr (Or.inl (fun z => hs ((hS p y hp).mpr z)))
        rw [if_pos (zb_t c2)] at e
        rw [if_pos (zb_t c2')]
        exact ih p (y + 1) T R T' R' r hp h e
      · have hs : S p y := Classical.byContradiction fun z => c2 (Or.inr (Or.inl z))
        have t0 : T y ≠ 0 := fun z => c2 (Or.inr (Or.inr z))
        have hx : y ≠ x0 := fun z => t0 (by rw [z]; exact h.1)
        obtain ⟨a, b, c⟩ := h.2 y (hY p y hp hs)
        have c2' : ¬ (R' y = 1 ∨ ¬ S' p y ∨ T' y = 0) := by
          rintro (z | z | z)
          · exact c2 (Or.inl (by rw [b hx]; exact z))
          · exact z ((hS p y hp).mp hs)
          · exact t0 (a.trans z)
        rw [if_neg (by rw [zb_f c2]; omega)] at e
        rw [if_neg (by rw [zb_f c2']; omega), ← a]
        by_cases c3 : T y < 0
        · rw [if_pos c3] at e ⊢
          cases e
          exact ⟨_, rfl, rfl, ALk_up (ALk_upR h) hx hp⟩
        · rw [if_neg c3] at e ⊢
          have hP : P (T y) := c (by omega)
          cases q : fpN S PP w sl k (T y) (max 0 (w + PP (T y))) T (up1 R y 1) with
          | none => rw [q] at e; cases e
          | some r1 =>
            rw [q] at e
            obtain ⟨r1', e1, e2, e3⟩ := ih _ _ _ _ _ _ _ hP (ALk_upR h) q
            rw [← hPP _ hP, e1]
            simp only at e ⊢
            by_cases c4 : r1.1 = 1
            · rw [if_pos c4] at e
              rw [if_pos (e2.trans c4)]
              cases e
              exact ⟨_, rfl, rfl, ALk_up e3 hx hp⟩
            · rw [if_neg c4] at e
              rw [if_neg (fun z => c4 (e2.symm.trans z))]
              exact ih p (y + 1) _ _ _ _ r hp e3 e
theorem FP_cg {S S' : Int → Int → Prop} {PP PP' : Int → Int} {w sl x0 : Int} {P Y : Int → Prop} (hY : ∀ p y, P p → S p y → Y y) (hS : ∀ p y, P p → (S p y ↔ S' p y)) (hPP : ∀ p, P p → PP p = PP' p) {p y : Int} {T R T' R' : Int → Int} {r : FR} (hp : P p) (h : ALk P Y x0 T R T' R') (hr : FP S PP w sl p y T R r) : ∃ r' : FR, FP S' PP' w sl p y T' R' r' ∧ r'.1 = r.1 ∧ ALk P Y x0 r.2.1 r.2.2 r'.2.1 r'.2.2 := by
  obtain ⟨k, hk⟩ := hr
  obtain ⟨r', e1, e2, e3⟩ := FP_cgN hY hS hPP k p y T R T' R' r hp h hk
  exact ⟨r', ⟨k, e1⟩, e2, e3⟩
theorem ALk_sym {P Y : Int → Prop} {x0 : Int} {T R T' R' : Int → Int} (h : ALk P Y x0 T R T' R') (hx : T' x0 = 0) : ALk P Y x0 T' R' T R := ⟨hx, fun z hz => by obtain ⟨a, b, c⟩ := h.2 z hz; exact ⟨a.symm, fun q => (b q).symm, fun q => by rw [← a]; exact c (by omega)⟩⟩
theorem ALk_0 {P Y : Int → Prop} {x0 : Int} {T R T' R' : Int → Int} (h : ALk P Y x0 T R T' R') (R1 R1' : Int → Int) (hr : ∀ z, Y z → z ≠ x0 → R1 z = R1' z) : ALk P Y x0 T R1 T' R1' := ⟨h.1, fun z hz => by obtain ⟨a, b, c⟩ := h.2 z hz; exact ⟨a, hr z hz, c⟩⟩
noncomputable def fpV (S : Int → Int → Prop) (PP : Int → Int) (w sl p y : Int) (T R : Int → Int) : FR := @dite FR (∃ r, FP S PP w sl p y T R r) (Classical.propDecidable _) (fun h => Classical.choose h) (fun _ => (0, T, R))
theorem fpV_at {S : Int → Int → Prop} {PP : Int → Int} {w sl p y : Int} {T R : Int → Int} {r : FR} (h : FP S PP w sl p y T R r) : fpV S PP w sl p y T R = r := by
  unfold fpV
  have he : ∃ r, FP S PP w sl p y T R r := ⟨r, h⟩
  rw [dif_pos he]
  exact FP_det (Classical.choose_spec he) h
theorem fpV_no {S : Int → Int → Prop} {PP : Int → Int} {w sl p y : Int} {T R : Int → Int} (h : ¬ ∃ r, FP S PP w sl p y T R r) : fpV S PP w sl p y T R = (0, T, R) := by
  unfold fpV
  rw [dif_neg h]
/-- whether the places p, p + 1 .. (m of them) all get positions -/
noncomputable def fwN (S : Int → Int → Prop) (PP : Int → Int) (w sl : Int) : Nat → Int → (Int → Int) → Int
  | 0, _, _ => 1
  | m + 1, p, T => if (fpV S PP w sl p (max 0 (w + PP p)) T (fun _ => 0)).1 = 1 then fwN S PP w sl m (p + 1) (fpV S PP w sl p (max 0 (w + PP p)) T (fun _ => 0)).2.1 else 0
theorem fwN_cg {S S' : Int → Int → Prop} {PP PP' : Int → Int} {w sl x0 : Int} {P Y : Int → Prop} (hY : ∀ p y, P p → S p y → Y y) (hS : ∀ p y, P p → (S p y ↔ S' p y)) (hPP : ∀ p, P p → PP p = PP' p) :
    ∀ (m : Nat) (p : Int) (T R T' R' : Int → Int), (∀ q, p ≤ q → q < p + m → P q) → T' x0 = 0 → ALk P Y x0 T R T' R' → fwN S PP w sl m p T = fwN S' PP' w sl m p T' := by
  intro m
  induction m with
  | zero => intros; rfl
  | succ m ih =>
    intro p T R T' R' hp hx h
    have hP : P p := hp p (by omega) (by omega)
    have h0 := ALk_0 h (fun _ => 0) (fun _ => 0) (fun _ _ _ => rfl)
    show (if (fpV S PP w sl p (max 0 (w + PP p)) T (fun _ => 0)).1 = 1 then _ else 0) = (if (fpV S' PP' w sl p (max 0 (w + PP' p)) T' (fun _ => 0)).1 = 1 then _ else 0)
    rw [← hPP p hP]
    by_cases he : ∃ r, FP S PP w sl p (max 0 (w + PP p)) T (fun _ => 0) r
    · obtain ⟨r, hr⟩ := he
      obtain ⟨r', hr', e1, e2⟩ := FP_cg hY hS hPP hP h0 hr
      rw [fpV_at hr, fpV_at hr']
      by_cases c : r.1 = 1
      · rw [if_pos c, if_pos (e1.trans c)]
        have hy' : ∀ p y, P p → S' p y → Y y := fun p y a b => hY p y a ((hS p y a).mpr b)
        have hb := FP_cg (S := S') (S' := S') (PP := PP') (PP' := PP') hy' (fun p y a => Iff.rfl) (fun p a => rfl) hP (ALk_sym h0 hx) hr'
        obtain ⟨r2, -, -, e3⟩ := hb
        exact ih (p + 1) _ _ _ _ (fun q h1 h2 => hp q (by omega) (by omega)) e3.1 e2
      · rw [if_neg c, if_neg (fun z => c (e1.symm.trans z))]
    · have he' : ¬ ∃ r, FP S' PP' w sl p (max 0 (w + PP p)) T' (fun _ => 0) r := by
        rintro ⟨r, hr⟩
        have hy' : ∀ p y, P p → S' p y → Y y := fun p y a b => hY p y a ((hS p y a).mpr b)
        obtain ⟨r', hr', -, -⟩ := FP_cg (S := S') (S' := S) (PP := PP') (PP' := PP) hy' (fun p y a => (hS p y a).symm) (fun p a => (hPP p a).symm) hP (ALk_sym h0 hx) hr
        exact he ⟨r', hr'⟩
      rw [fpV_no he, fpV_no he']
      rw [if_neg (by show ¬ (0 : Int) = 1; omega), if_neg (by show ¬ (0 : Int) = 1; omega)]
theorem fwN_s {S : Int → Int → Prop} {PP : Int → Int} {w sl x0 : Int} {P Y : Int → Prop} (hY : ∀ p y, P p → S p y → Y y) {m : Nat} {p : Int} {T R : Int → Int} {r : FR} (hp : ∀ q, p ≤ q → q < p + (m + 1 : Nat) → P q) (h : T x0 = 0 ∧ ∀ z, Y z → 0 < T z → P (T z)) (hR : ∀ z, Y z → R z = 0) (hr : FP S PP w sl p (max 0 (w + PP p)) T R r) :
    fwN S PP w sl (m + 1) p T = (if r.1 = 1 then fwN S PP w sl m (p + 1) r.2.1 else 0) ∧ (r.2.1 x0 = 0 ∧ ∀ z, Y z → 0 < r.2.1 z → P (r.2.1 z)) := by
  have hP : P p := hp p (by omega) (by omega)
  have ha : ALk P Y x0 T R T (fun _ => 0) := ⟨h.1, fun z hz => ⟨rfl, fun _ => hR z hz, h.2 z hz⟩⟩
  obtain ⟨r', hr', e1, e2⟩ := FP_cg hY (fun p y a => Iff.rfl) (fun p a => rfl) hP ha hr
  have hb := FP_cg (S := S) (S' := S) (PP := PP) (PP' := PP) hY (fun p y a => Iff.rfl) (fun p a => rfl) hP (ALk_sym ha h.1) hr'
  obtain ⟨r2, -, -, e3⟩ := hb
  refine ⟨?_, e2.1, fun z hz => (e2.2 z hz).2.2⟩
  show (if (fpV S PP w sl p (max 0 (w + PP p)) T (fun _ => 0)).1 = 1 then _ else 0) = _
  rw [fpV_at hr']
  by_cases c : r.1 = 1
  · rw [if_pos c, if_pos (e1.trans c)]
    exact (fwN_cg (S := S) (S' := S) (PP := PP) (PP' := PP) hY (fun p y a => Iff.rfl) (fun p a => rfl) m (p + 1) _ _ _ _ (fun q h1 h2 => hp q (by omega) (by omega)) e3.1 e2).symm
  · rw [if_neg c, if_neg (fun z => c (e1.symm.trans z))]
/-- at first only place 0 has a position, x -/
def t0 (x y : Int) : Int := if y = x then 0 else -1
/-- whether all places can stand apart when the first stands at x, in the window from w on -/
noncomputable def fw (S : Int → Int → Prop) (PP : Int → Int) (pl w sl x : Int) : Int := fwN S PP w sl (pl - 1).toNat 1 (t0 x)
end
section
/-! contracts: printed by tools/mk.py out of s43b_window.py -/
set_option maxRecDepth 100000
set_option maxHeartbeats 1500000
theorem fwN_0 {S : Int → Int → Prop} {PP : Int → Int} {w sl p : Int} {T : Int → Int} : fwN S PP w sl 0 p T = 1 := rfl
theorem ktf_113 {σ τ : Sto} (h : KT σ τ) : τ.I 555 113 = σ.I 555 113 := congrFun (kt_555 h) _
theorem ktf_108 {σ τ : Sto} (h : KT σ τ) : τ.I 555 108 = σ.I 555 108 := congrFun (kt_555 h) _
theorem ktp_633 {σ τ : Sto} (h : KT σ τ) (i : Int) : τ.I 633 i = σ.I 633 i := congrFun (kt_633 h) _
theorem ktp_634 {σ τ : Sto} (h : KT σ τ) (i : Int) : τ.I 634 i = σ.I 634 i := congrFun (kt_634 h) _
def nk500 : Nat := 500
/-- the takers: place 0 at x, others of the places -/
def HPt (T : Int → Int) (x fx pl : Int) : Prop := T x = 0 ∧ ∀ z, (0 ≤ z ∧ z ≤ fx) → 0 < T z → (1 ≤ T z ∧ T z < pl)
theorem stS_Y {σ : Sto} {p y : Int} (h : stS σ p y) : 0 ≤ y ∧ y ≤ σ.I 555 113 := h.1
theorem fw_begin {σ : Sto} {T : Int → Int} {pl w sl x : Int} (h0 : T x = 0) (h1 : ∀ z, 0 ≤ z → z ≤ σ.I 555 113 → z ≠ x → T z = -1) : fwN (stS σ) (σ.I 633) w sl (pl - 1).toNat 1 T = fw (stS σ) (σ.I 633) pl w sl x := by
  unfold fw
  refine fwN_cg (x0 := x) (P := fun p => 1 ≤ p ∧ p < pl) (Y := fun z => 0 ≤ z ∧ z ≤ σ.I 555 113) (fun p y _ h => stS_Y h) (fun _ _ _ => Iff.rfl) (fun _ _ => rfl) _ _ T (fun _ => 0) (t0 x) (fun _ => 0) (fun q a b => ⟨a, by omega⟩) (if_pos rfl) ⟨h0, fun z hz => ?_⟩
  unfold t0
  by_cases e : z = x
  · subst e; rw [if_pos rfl, h0]; exact ⟨rfl, fun _ => rfl, fun z => by omega⟩
  · rw [if_neg e, h1 z hz.1 hz.2 e]; exact ⟨rfl, fun _ => rfl, fun z => by omega⟩
theorem fw_step {σ : Sto} {T R : Int → Int} {pl w sl x p : Int} {r : FR} (hp : 1 ≤ p ∧ p < pl) (h : HPt T x (σ.I 555 113) pl) (hR : alN (fun z => R z = 0) (σ.I 555 113 + 1)) (hr : FP (stS σ) (σ.I 633) w sl p (max 0 (w + σ.I 633 p)) T R r) :
    fwN (stS σ) (σ.I 633) w sl (pl - p).toNat p T = (if r.1 = 1 then fwN (stS σ) (σ.I 633) w sl (pl - (p + 1)).toNat (p + 1) r.2.1 else 0) ∧ HPt r.2.1 x (σ.I 555 113) pl := by
  have e : (pl - p).toNat = (pl - (p + 1)).toNat + 1 := by omega
  rw [e]
  exact fwN_s (x0 := x) (P := fun p => 1 ≤ p ∧ p < pl) (Y := fun z => 0 ≤ z ∧ z ≤ σ.I 555 113) (fun p y _ h => stS_Y h) (fun q a b => ⟨by omega, by omega⟩) h (fun z hz => hR z hz.1 (by omega)) hr

theorem sp_X9_fitsWindow {E : XE} {d : Nat} {σ : Sto} {x1 : Int} {x2 : Int} {x3 : Int} (hd : 504 ≤ d) (hL : Lay σ)  (p0 : 0 ≤ x1 ∧ x1 ≤ σ.I 555 113) (p1 : -9 ≤ x2 ∧ x2 ≤ 600) (p2 : 0 ≤ x3 ∧ x3 ≤ 9) (p3 : 0 ≤ σ.I 555 113 ∧ σ.I 555 113 < 500) (p4 : bd_0_500 σ 633 16) (p5 : bd_m1_15 σ 635 1024) (p6 : 1 ≤ (σ.I 555 108) ∧ (σ.I 555 108) ≤ 16) : CC E mX9_fitsWindow d [aO 555, aI (x1), aI (x2), aI (x3)] σ (RVZ (fun y τ => (y = (fw (stS σ) (σ.I 633) (σ.I 555 108) x2 x3 x1)) ∧ (bd_m1_15 τ 635 1024) ∧ (KT σ τ))) := by sorry
theorem stS_cg {σ τ : Sto} (h : KT σ τ) : stS τ = stS σ := stS_k h
/-- whether the places can stand when the first stands at x -/
def mAt (S : Int → Int → Prop) (PP : Int → Int) (pl sl x : Int) : Prop := exF (fun w => fw S PP pl w sl x = 1) (x - sl) (x + 1)

theorem sp_X9_matchesAt {E : XE} {d : Nat} {σ : Sto} {x1 : Int} {x2 : Int} (hd : 505 ≤ d) (hL : Lay σ)  (p0 : 0 ≤ x1 ∧ x1 ≤ σ.I 555 113) (p1 : 0 ≤ x2 ∧ x2 ≤ 9) (p2 : 0 ≤ σ.I 555 113 ∧ σ.I 555 113 < 500) (p3 : bd_0_500 σ 633 16) (p4 : bd_m1_15 σ 635 1024) (p5 : 1 ≤ (σ.I 555 108) ∧ (σ.I 555 108) ≤ 16) : CC E mX9_matchesAt d [aO 555, aI (x1), aI (x2)] σ (RVZ (fun y τ => (y = 1 ↔ mAt (stS σ) (σ.I 633) (σ.I 555 108) x2 x1) ∧ (bd_m1_15 τ 635 1024) ∧ (KT σ τ))) := by sorry
end
section
/-! contracts: printed by tools/mk.py out of s43c_look.py -/
set_option maxRecDepth 100000
set_option maxHeartbeats 1500000
/-- what the looking at a value writes -/
def wsL (c : Nat) (i : Int) : Prop := c = 634 ∨ (c = 555 ∧ i = 113)
abbrev KL (σ τ : Sto) : Prop := Ch wsL σ τ
theorem KL_rf {σ : Sto} : KL σ σ := Ch.rf
theorem KL_w {σ τ : Sto} {a : Nat} {i v : Int} (e : τ = σ.wI a i v) (h : wsL a i) : KL σ τ := by subst e; exact Ch.wI Ch.rf h
theorem KM_of_KL {σ τ : Sto} (h : KL σ τ) : KM σ τ := Ch.mono h (fun c i q => by unfold wsL at q; unfold wsM; omega)
theorem klp {σ τ : Sto} (h : KL σ τ) (c : Nat) (hc : c ≠ 634 ∧ c ≠ 555) (i : Int) : τ.I c i = σ.I c i := h.2 c i (by unfold wsL; omega)
theorem klp_582 {σ τ : Sto} (h : KL σ τ) (i : Int) : τ.I 582 i = σ.I 582 i := klp h _ (by decide) i
theorem klp_590 {σ τ : Sto} (h : KL σ τ) (i : Int) : τ.I 590 i = σ.I 590 i := klp h _ (by decide) i
theorem klp_587 {σ τ : Sto} (h : KL σ τ) (i : Int) : τ.I 587 i = σ.I 587 i := klp h _ (by decide) i
theorem klp_629 {σ τ : Sto} (h : KL σ τ) (i : Int) : τ.I 629 i = σ.I 629 i := klp h _ (by decide) i
theorem klp_630 {σ τ : Sto} (h : KL σ τ) (i : Int) : τ.I 630 i = σ.I 630 i := klp h _ (by decide) i
theorem klp_631 {σ τ : Sto} (h : KL σ τ) (i : Int) : τ.I 631 i = σ.I 631 i := klp h _ (by decide) i
theorem klp_632 {σ τ : Sto} (h : KL σ τ) (i : Int) : τ.I 632 i = σ.I 632 i := klp h _ (by decide) i
theorem kl_at {σ τ : Sto} (h : KL σ τ) (c : Nat) (hc : c ≠ 634 ∧ c ≠ 555) : τ.I c = σ.I c := funext fun i => klp h c hc i
theorem kl_587 {σ τ : Sto} (h : KL σ τ) : τ.I 587 = σ.I 587 := kl_at h _ (by decide)
theorem kl_628 {σ τ : Sto} (h : KL σ τ) : τ.I 628 = σ.I 628 := kl_at h _ (by decide)
theorem kl_633 {σ τ : Sto} (h : KL σ τ) : τ.I 633 = σ.I 633 := kl_at h _ (by decide)
theorem kl_635 {σ τ : Sto} (h : KL σ τ) : τ.I 635 = σ.I 635 := kl_at h _ (by decide)
theorem klf_108 {σ τ : Sto} (h : KL σ τ) : τ.I 555 108 = σ.I 555 108 := h.2 _ _ (by unfold wsL; omega)
theorem mT_kl {σ τ : Sto} (h : KL σ τ) : mT τ = mT σ := by funext A i n t; unfold mT; rw [kl_587 h, kl_at h 586 (by decide)]
/-- token t of the value at hand is one of the leaf's of place p, of those below e -/
def lkQ (σ : Sto) (n e p t : Int) : Prop := exF (fun q => σ.I 630 q = p ∧ mT σ (σ.I 628) (20 * q) (σ.I 629 q) t) (σ.I 631 n) e
/-- place p stands at x in value v, by its first m tokens -/
def stP (σ : Sto) (n v m p x : Int) : Prop := exN (fun j => σ.I 590 (σ.I 582 v + j) = x ∧ lkQ σ n (σ.I 632 n) p (σ.I 582 v + j)) m
def stQ (σ : Sto) (n v p x : Int) : Prop := stP σ n v (tcM σ v) p x
/-- what is laid down of it -/
def LK (T : Int → Int) (pl fx : Int) (Q : Int → Int → Prop) : Prop := ∀ p y, 0 ≤ p → p < pl → 0 ≤ y → y ≤ fx → (T (1024 * p + y) = 1 ↔ Q p y)
theorem LK_iff {T : Int → Int} {pl fx : Int} {Q Q' : Int → Int → Prop} (h : LK T pl fx Q) (hq : ∀ p y, 0 ≤ p → p < pl → (Q p y ↔ Q' p y)) : LK T pl fx Q' := fun p y a b c e => (h p y a b c e).trans (hq p y a b)
theorem LK_set {T T' : Int → Int} {pl fx a b : Int} {Q Q' : Int → Int → Prop} (h : LK T pl fx Q) (ha : 0 ≤ a) (hb : 0 ≤ b) (hb2 : b < 1024) (hf : fx < 1024) (e : ∀ k, T' k = if k = 1024 * a + b then 1 else T k) (hq : ∀ p y, 0 ≤ p → p < pl → (Q' p y ↔ (Q p y ∨ (p = a ∧ y = b)))) : LK T' pl fx Q' := by
  intro p y p0 p1 y0 y1
  rw [e, hq p y p0 p1]
  by_cases c : 1024 * p + y = 1024 * a + b
  · have : p = a ∧ y = b := by omega
    rw [if_pos c]; exact ⟨fun _ => Or.inr this, fun _ => rfl⟩
  · rw [if_neg c, h p y p0 p1 y0 y1]
    exact ⟨Or.inl, fun z => z.elim id (fun y => absurd (by rw [y.1, y.2]) c)⟩
theorem lkQ_s {σ : Sto} {n e m p t : Int} (h : σ.I 631 n ≤ e) (hm : m = e + 1) : lkQ σ n m p t ↔ (lkQ σ n e p t ∨ (σ.I 630 e = p ∧ mT σ (σ.I 628) (20 * e) (σ.I 629 e) t)) := by
  subst hm
  constructor
  · rintro ⟨q, q1, q2, q3⟩
    by_cases c : q = e
    · subst c; exact Or.inr q3
    · exact Or.inl ⟨q, q1, by omega, q3⟩
  · rintro (⟨q, q1, q2, q3⟩ | z)
    · exact ⟨q, q1, by omega, q3⟩
    · exact ⟨e, h, by omega, z⟩
theorem lkQ_0 {σ : Sto} {n e p t : Int} (h : e ≤ σ.I 631 n) : ¬ lkQ σ n e p t := fun ⟨q, q1, q2, _⟩ => by omega
theorem stP_s {σ : Sto} {n v m k p x : Int} (h : 0 ≤ m) (hk : k = m + 1) : stP σ n v k p x ↔ (stP σ n v m p x ∨ (σ.I 590 (σ.I 582 v + m) = x ∧ lkQ σ n (σ.I 632 n) p (σ.I 582 v + m))) := exN_s _ m k h hk
theorem stP_0 {σ : Sto} {n v m p x : Int} (h : m ≤ 0) : ¬ stP σ n v m p x := exN_0 _ m h

theorem sp_X9_lookAt {E : XE} {d : Nat} {σ : Sto} {x1 : Int} {x2 : Int} (hd : 3 ≤ d) (hL : Lay σ)  (p0 : 0 ≤ x1 ∧ x1 < 130) (p1 : 0 ≤ x2 ∧ x2 < σ.I 555 30 ∧ σ.I 555 30 ≤ 6000) (p2 : VT σ (σ.I 555 30)) (p3 : bd_0_499 σ 590 24000) (p4 : 0 ≤ (σ.I 555 108) ∧ (σ.I 555 108) ≤ 16) (p5 : 0 ≤ σ.I 631 x1 ∧ σ.I 631 x1 ≤ σ.I 632 x1 ∧ σ.I 632 x1 ≤ 6000) (p6 : bd_0_15 σ 630 6000) (p7 : bd_0_20 σ 629 6000) (p8 : bd_0_20 σ 587 24000) : CC E mX9_lookAt d [aO 555, aI (x1), aI (x2)] σ (RV (fun τ => (0 ≤ τ.I 555 113 ∧ τ.I 555 113 < 500) ∧ (alN (fun j => σ.I 590 (σ.I 582 x2 + j) ≤ τ.I 555 113) (tcM σ x2)) ∧ (LK (τ.I 634) (σ.I 555 108) (τ.I 555 113) (stQ σ x1 x2)) ∧ (KL σ τ))) := by sorry
noncomputable def mtc (S : Int → Int → Prop) (PP : Int → Int) (pl sl : Int) : Int := cn (fun x => S 0 x ∧ mAt S PP pl sl x) 500
theorem cn_ext {p : Int → Prop} {n m : Int} (h0 : 0 ≤ n) (h : n ≤ m) (hp : ∀ k, n ≤ k → k < m → ¬ p k) : cn p m = cn p n := by
  obtain ⟨j, hj⟩ : ∃ j : Nat, (m - n).toNat = j := ⟨_, rfl⟩
  induction j generalizing m with
  | zero => have : m = n := (by omega); rw [this]
  | succ j ih => rw [cn_s p (m - 1) m (by omega) (by omega), zb_f (hp (m - 1) (by omega) (by omega)), ih (by omega) (fun k a b => hp k a (by omega)) (by omega)]; omega
theorem fw_cgS {S S' : Int → Int → Prop} {PP : Int → Int} {pl w sl x fx : Int} (hS : ∀ p y, 0 ≤ p → p < pl → (S p y ↔ S' p y)) : fw S PP pl w sl x = fw S' PP pl w sl x := by
  unfold fw
  refine fwN_cg (x0 := x) (P := fun p => 1 ≤ p ∧ p < pl) (Y := fun _ => True) (fun _ _ _ _ => trivial) (fun p y h => hS p y (by omega) h.2) (fun _ _ => rfl) _ _ (t0 x) (fun _ => 0) (t0 x) (fun _ => 0) (fun q a b => ⟨a, by omega⟩) (if_pos rfl) ⟨if_pos rfl, fun z _ => ⟨rfl, fun _ => rfl, fun h => ?_⟩⟩
  unfold t0 at h
  split at h <;> omega
theorem mAt_cgS {S S' : Int → Int → Prop} {PP : Int → Int} {pl sl x : Int} (hS : ∀ p y, 0 ≤ p → p < pl → (S p y ↔ S' p y)) : mAt S PP pl sl x ↔ mAt S' PP pl sl x := by
  unfold mAt
  constructor
  · rintro ⟨w, a, b, c⟩; exact ⟨w, a, b, (fw_cgS (fx := 0) hS).symm.trans c⟩
  · rintro ⟨w, a, b, c⟩; exact ⟨w, a, b, (fw_cgS (fx := 0) hS).trans c⟩
/-- behind the looking: where places stand -/
theorem stS_look {σ τ : Sto} {n v pl : Int} (hm : alN (fun j => σ.I 590 (σ.I 582 v + j) ≤ τ.I 555 113) (tcM σ v)) (hp : ∀ j, 0 ≤ j → j < tcM σ v → 0 ≤ σ.I 590 (σ.I 582 v + j)) (h : LK (τ.I 634) pl (τ.I 555 113) (stQ σ n v)) : ∀ p y, 0 ≤ p → p < pl → (stS τ p y ↔ stQ σ n v p y) := by
  intro p y a b
  constructor
  · rintro ⟨⟨z1, z2⟩, z3⟩; exact (h p y a b z1 z2).mp z3
  · intro z
    obtain ⟨j, j0, j1, j2, j3⟩ := z
    have q1 : σ.I 590 (σ.I 582 v + j) ≤ τ.I 555 113 := hm j j0 j1
    have q2 := hp j j0 j1
    have y1 : 0 ≤ y ∧ y ≤ τ.I 555 113 := by omega
    exact ⟨y1, (h p y a b y1.1 y1.2).mpr ⟨j, j0, j1, j2, j3⟩⟩

def wsW (c : Nat) (i : Int) : Prop := (634 ≤ c ∧ c ≤ 636) ∨ (c = 555 ∧ i = 113)
abbrev KW (σ τ : Sto) : Prop := Ch wsW σ τ
theorem KW_rf {σ : Sto} : KW σ σ := Ch.rf
theorem KW_of_KT {σ τ : Sto} (h : KT σ τ) : KW σ τ := Ch.mono h (fun c i q => by unfold wsT at q; unfold wsW; omega)
theorem KW_of_KL {σ τ : Sto} (h : KL σ τ) : KW σ τ := Ch.mono h (fun c i q => by unfold wsL at q; unfold wsW; omega)
theorem KM_of_KW {σ τ : Sto} (h : KW σ τ) : KM σ τ := Ch.mono h (fun c i q => by unfold wsW at q; unfold wsM; omega)
theorem kw_582 {σ τ : Sto} (h : KW σ τ) : τ.I 582 = σ.I 582 := funext fun i => h.2 582 i (by unfold wsW; omega)
theorem kwp_582 {σ τ : Sto} (h : KW σ τ) (i : Int) : τ.I 582 i = σ.I 582 i := h.2 582 i (by unfold wsW; omega)
theorem kw_587 {σ τ : Sto} (h : KW σ τ) : τ.I 587 = σ.I 587 := funext fun i => h.2 587 i (by unfold wsW; omega)
theorem kwp_587 {σ τ : Sto} (h : KW σ τ) (i : Int) : τ.I 587 i = σ.I 587 i := h.2 587 i (by unfold wsW; omega)
theorem kw_590 {σ τ : Sto} (h : KW σ τ) : τ.I 590 = σ.I 590 := funext fun i => h.2 590 i (by unfold wsW; omega)
theorem kwp_590 {σ τ : Sto} (h : KW σ τ) (i : Int) : τ.I 590 i = σ.I 590 i := h.2 590 i (by unfold wsW; omega)
theorem kw_628 {σ τ : Sto} (h : KW σ τ) : τ.I 628 = σ.I 628 := funext fun i => h.2 628 i (by unfold wsW; omega)
theorem kwp_628 {σ τ : Sto} (h : KW σ τ) (i : Int) : τ.I 628 i = σ.I 628 i := h.2 628 i (by unfold wsW; omega)
theorem kw_629 {σ τ : Sto} (h : KW σ τ) : τ.I 629 = σ.I 629 := funext fun i => h.2 629 i (by unfold wsW; omega)
theorem kwp_629 {σ τ : Sto} (h : KW σ τ) (i : Int) : τ.I 629 i = σ.I 629 i := h.2 629 i (by unfold wsW; omega)
theorem kw_630 {σ τ : Sto} (h : KW σ τ) : τ.I 630 = σ.I 630 := funext fun i => h.2 630 i (by unfold wsW; omega)
theorem kwp_630 {σ τ : Sto} (h : KW σ τ) (i : Int) : τ.I 630 i = σ.I 630 i := h.2 630 i (by unfold wsW; omega)
theorem kw_631 {σ τ : Sto} (h : KW σ τ) : τ.I 631 = σ.I 631 := funext fun i => h.2 631 i (by unfold wsW; omega)
theorem kwp_631 {σ τ : Sto} (h : KW σ τ) (i : Int) : τ.I 631 i = σ.I 631 i := h.2 631 i (by unfold wsW; omega)
theorem kw_632 {σ τ : Sto} (h : KW σ τ) : τ.I 632 = σ.I 632 := funext fun i => h.2 632 i (by unfold wsW; omega)
theorem kwp_632 {σ τ : Sto} (h : KW σ τ) (i : Int) : τ.I 632 i = σ.I 632 i := h.2 632 i (by unfold wsW; omega)
theorem kw_633 {σ τ : Sto} (h : KW σ τ) : τ.I 633 = σ.I 633 := funext fun i => h.2 633 i (by unfold wsW; omega)
theorem kwp_633 {σ τ : Sto} (h : KW σ τ) (i : Int) : τ.I 633 i = σ.I 633 i := h.2 633 i (by unfold wsW; omega)
theorem kw_617 {σ τ : Sto} (h : KW σ τ) : τ.I 617 = σ.I 617 := funext fun i => h.2 617 i (by unfold wsW; omega)
theorem kwp_617 {σ τ : Sto} (h : KW σ τ) (i : Int) : τ.I 617 i = σ.I 617 i := h.2 617 i (by unfold wsW; omega)
theorem kwf_108 {σ τ : Sto} (h : KW σ τ) : τ.I 555 108 = σ.I 555 108 := h.2 _ _ (by unfold wsW; omega)
def LQ (τ σ : Sto) (n v pl : Int) : Prop := ∀ p y, 0 ≤ p → p < pl → (stS τ p y ↔ stQ σ n v p y)

theorem sp_X9_matchesIn {E : XE} {d : Nat} {σ : Sto} {x1 : Int} {x2 : Int} (hd : 506 ≤ d) (hL : Lay σ)  (p0 : 0 ≤ x1 ∧ x1 < 130) (p1 : 0 ≤ x2 ∧ x2 < σ.I 555 30 ∧ σ.I 555 30 ≤ 6000) (p2 : VT σ (σ.I 555 30)) (p3 : bd_0_499 σ 590 24000) (p4 : 1 ≤ (σ.I 555 108) ∧ (σ.I 555 108) ≤ 16) (p5 : 0 ≤ σ.I 631 x1 ∧ σ.I 631 x1 ≤ σ.I 632 x1 ∧ σ.I 632 x1 ≤ 6000) (p6 : bd_0_15 σ 630 6000) (p7 : bd_0_20 σ 629 6000) (p8 : bd_0_20 σ 587 24000) (p9 : bd_0_500 σ 633 16) (p10 : bd_m1_15 σ 635 1024) (p11 : 0 ≤ σ.I 617 x1 ∧ σ.I 617 x1 ≤ 9) : CC E mX9_matchesIn d [aO 555, aI (x1), aI (x2)] σ (RVI (fun y τ => (y = mtc (stQ σ x1 x2) (σ.I 633) (σ.I 555 108) (σ.I 617 x1)) ∧ (0 ≤ y ∧ y ≤ 500) ∧ (bd_m1_15 τ 635 1024) ∧ (KW σ τ))) := by sorry
end
section
/-! contracts: printed by tools/mk.py out of s43d_floor.py -/
set_option maxRecDepth 100000
set_option maxHeartbeats 1500000
/-- Math.floorDiv -/
def fdv (x y : Int) : Int := if b64xor x y < 0 ∧ td x y * y ≠ x then td x y - 1 else td x y
theorem td_b {x y : Int} (h : 1 ≤ y) : (x ≤ td x y * y ∨ 0 ≤ x) ∧ (td x y * y ≤ x ∨ x ≤ 0) ∧ (0 ≤ x → 0 ≤ td x y * y ∧ 0 ≤ td x y ∧ td x y ≤ x) ∧ (x ≤ 0 → td x y * y ≤ 0 ∧ td x y ≤ 0 ∧ x ≤ td x y) := by
  unfold td
  have e := Int.tmod_add_tdiv_mul x y
  rcases Int.le_total 0 x with h0 | h0
  · have a1 := Int.tmod_nonneg y h0
    have a2 := Int.tdiv_nonneg h0 (by omega : 0 ≤ y)
    have a3 := Int.tdiv_le_self y h0
    have a4 := Int.mul_nonneg a2 (by omega : 0 ≤ y)
    refine ⟨Or.inr h0, Or.inl (by omega), fun _ => ⟨a4, a2, a3⟩, fun z => ?_⟩
    have hx : x = 0 := by omega
    subst hx
    rw [Int.zero_tdiv]; omega
  · obtain ⟨u, rfl⟩ : ∃ u, x = -u := ⟨-x, by omega⟩
    have hu : 0 ≤ u := by omega
    have a1 := Int.tmod_nonneg y hu
    have a2 := Int.tdiv_nonneg hu (by omega : 0 ≤ y)
    have a3 := Int.tdiv_le_self y hu
    have a4 := Int.mul_nonneg a2 (by omega : 0 ≤ y)
    have e2 := Int.tmod_add_tdiv_mul u y
    rw [Int.neg_tdiv, Int.neg_mul]
    refine ⟨Or.inl (by omega), Or.inr h0, fun z => ?_, fun _ => ⟨by omega, by omega, by omega⟩⟩
    have hx : u = 0 := by omega
    subst hx
    rw [Int.zero_tdiv]; omega

theorem sp_J8_floorDiv {E : XE} {d : Nat} {σ : Sto} {y0 : Int} {y2 : Int} (hd : 1 ≤ d) (hL : Lay σ)  (p0 : inL y0) (p1 : inL y2) (p2 : 1 ≤ y2) : CC E mJ8_floorDiv d [aL (y0), aL (y2)] σ (RL σ (fdv y0 y2)) := by sorry
end
section
/-! bounds: printed by tools/mk.py out of bds2.txt -/
def bd_0_1 (σ : Sto) (a : Nat) (n : Int) : Prop := ∀ i, 0 ≤ i → i < n → 0 ≤ σ.I a i ∧ σ.I a i ≤ 1
theorem bd_0_1_at {σ : Sto} {a : Nat} {n i : Int} (h : bd_0_1 σ a n) (h0 : 0 ≤ i) (h1 : i < n) : σ.I a i = 0 ∨ (0 < σ.I a i ∧ σ.I a i ≤ 1) := by have := h i h0 h1; omega
theorem bd_0_1_eq {σ τ : Sto} {a : Nat} {n : Int} (h : bd_0_1 σ a n) (e : τ.I a = σ.I a) : bd_0_1 τ a n := by unfold bd_0_1; rw [e]; exact h
def bd_0_2 (σ : Sto) (a : Nat) (n : Int) : Prop := ∀ i, 0 ≤ i → i < n → 0 ≤ σ.I a i ∧ σ.I a i ≤ 2
theorem bd_0_2_at {σ : Sto} {a : Nat} {n i : Int} (h : bd_0_2 σ a n) (h0 : 0 ≤ i) (h1 : i < n) : σ.I a i = 0 ∨ (0 < σ.I a i ∧ σ.I a i ≤ 2) := by have := h i h0 h1; omega
theorem bd_0_2_eq {σ τ : Sto} {a : Nat} {n : Int} (h : bd_0_2 σ a n) (e : τ.I a = σ.I a) : bd_0_2 τ a n := by unfold bd_0_2; rw [e]; exact h
def bd_0_3 (σ : Sto) (a : Nat) (n : Int) : Prop := ∀ i, 0 ≤ i → i < n → 0 ≤ σ.I a i ∧ σ.I a i ≤ 3
theorem bd_0_3_at {σ : Sto} {a : Nat} {n i : Int} (h : bd_0_3 σ a n) (h0 : 0 ≤ i) (h1 : i < n) : σ.I a i = 0 ∨ (0 < σ.I a i ∧ σ.I a i ≤ 3) := by have := h i h0 h1; omega
theorem bd_0_3_eq {σ τ : Sto} {a : Nat} {n : Int} (h : bd_0_3 σ a n) (e : τ.I a = σ.I a) : bd_0_3 τ a n := by unfold bd_0_3; rw [e]; exact h
def bd_0_4 (σ : Sto) (a : Nat) (n : Int) : Prop := ∀ i, 0 ≤ i → i < n → 0 ≤ σ.I a i ∧ σ.I a i ≤ 4
theorem bd_0_4_at {σ : Sto} {a : Nat} {n i : Int} (h : bd_0_4 σ a n) (h0 : 0 ≤ i) (h1 : i < n) : σ.I a i = 0 ∨ (0 < σ.I a i ∧ σ.I a i ≤ 4) := by have := h i h0 h1; omega
theorem bd_0_4_eq {σ τ : Sto} {a : Nat} {n : Int} (h : bd_0_4 σ a n) (e : τ.I a = σ.I a) : bd_0_4 τ a n := by unfold bd_0_4; rw [e]; exact h
def bd_0_5 (σ : Sto) (a : Nat) (n : Int) : Prop := ∀ i, 0 ≤ i → i < n → 0 ≤ σ.I a i ∧ σ.I a i ≤ 5
theorem bd_0_5_at {σ : Sto} {a : Nat} {n i : Int} (h : bd_0_5 σ a n) (h0 : 0 ≤ i) (h1 : i < n) : σ.I a i = 0 ∨ (0 < σ.I a i ∧ σ.I a i ≤ 5) := by have := h i h0 h1; omega
theorem bd_0_5_eq {σ τ : Sto} {a : Nat} {n : Int} (h : bd_0_5 σ a n) (e : τ.I a = σ.I a) : bd_0_5 τ a n := by unfold bd_0_5; rw [e]; exact h
def bd_0_7 (σ : Sto) (a : Nat) (n : Int) : Prop := ∀ i, 0 ≤ i → i < n → 0 ≤ σ.I a i ∧ σ.I a i ≤ 7
theorem bd_0_7_at {σ : Sto} {a : Nat} {n i : Int} (h : bd_0_7 σ a n) (h0 : 0 ≤ i) (h1 : i < n) : σ.I a i = 0 ∨ (0 < σ.I a i ∧ σ.I a i ≤ 7) := by have := h i h0 h1; omega
theorem bd_0_7_eq {σ τ : Sto} {a : Nat} {n : Int} (h : bd_0_7 σ a n) (e : τ.I a = σ.I a) : bd_0_7 τ a n := by unfold bd_0_7; rw [e]; exact h
def bd_0_8 (σ : Sto) (a : Nat) (n : Int) : Prop := ∀ i, 0 ≤ i → i < n → 0 ≤ σ.I a i ∧ σ.I a i ≤ 8
theorem bd_0_8_at {σ : Sto} {a : Nat} {n i : Int} (h : bd_0_8 σ a n) (h0 : 0 ≤ i) (h1 : i < n) : σ.I a i = 0 ∨ (0 < σ.I a i ∧ σ.I a i ≤ 8) := by have := h i h0 h1; omega
theorem bd_0_8_eq {σ τ : Sto} {a : Nat} {n : Int} (h : bd_0_8 σ a n) (e : τ.I a = σ.I a) : bd_0_8 τ a n := by unfold bd_0_8; rw [e]; exact h
def bd_0_9 (σ : Sto) (a : Nat) (n : Int) : Prop := ∀ i, 0 ≤ i → i < n → 0 ≤ σ.I a i ∧ σ.I a i ≤ 9
theorem bd_0_9_at {σ : Sto} {a : Nat} {n i : Int} (h : bd_0_9 σ a n) (h0 : 0 ≤ i) (h1 : i < n) : σ.I a i = 0 ∨ (0 < σ.I a i ∧ σ.I a i ≤ 9) := by have := h i h0 h1; omega
theorem bd_0_9_eq {σ τ : Sto} {a : Nat} {n : Int} (h : bd_0_9 σ a n) (e : τ.I a = σ.I a) : bd_0_9 τ a n := by unfold bd_0_9; rw [e]; exact h
def bd_0_11 (σ : Sto) (a : Nat) (n : Int) : Prop := ∀ i, 0 ≤ i → i < n → 0 ≤ σ.I a i ∧ σ.I a i ≤ 11
theorem bd_0_11_at {σ : Sto} {a : Nat} {n i : Int} (h : bd_0_11 σ a n) (h0 : 0 ≤ i) (h1 : i < n) : σ.I a i = 0 ∨ (0 < σ.I a i ∧ σ.I a i ≤ 11) := by have := h i h0 h1; omega
theorem bd_0_11_eq {σ τ : Sto} {a : Nat} {n : Int} (h : bd_0_11 σ a n) (e : τ.I a = σ.I a) : bd_0_11 τ a n := by unfold bd_0_11; rw [e]; exact h
def bd_m1_11 (σ : Sto) (a : Nat) (n : Int) : Prop := ∀ i, 0 ≤ i → i < n → (-1) ≤ σ.I a i ∧ σ.I a i ≤ 11
theorem bd_m1_11_at {σ : Sto} {a : Nat} {n i : Int} (h : bd_m1_11 σ a n) (h0 : 0 ≤ i) (h1 : i < n) : σ.I a i = (-1) ∨ ((-1) < σ.I a i ∧ σ.I a i ≤ 11) := by have := h i h0 h1; omega
theorem bd_m1_11_eq {σ τ : Sto} {a : Nat} {n : Int} (h : bd_m1_11 σ a n) (e : τ.I a = σ.I a) : bd_m1_11 τ a n := by unfold bd_m1_11; rw [e]; exact h
def bd_0_255 (σ : Sto) (a : Nat) (n : Int) : Prop := ∀ i, 0 ≤ i → i < n → 0 ≤ σ.I a i ∧ σ.I a i ≤ 255
theorem bd_0_255_at {σ : Sto} {a : Nat} {n i : Int} (h : bd_0_255 σ a n) (h0 : 0 ≤ i) (h1 : i < n) : σ.I a i = 0 ∨ (0 < σ.I a i ∧ σ.I a i ≤ 255) := by have := h i h0 h1; omega
theorem bd_0_255_eq {σ τ : Sto} {a : Nat} {n : Int} (h : bd_0_255 σ a n) (e : τ.I a = σ.I a) : bd_0_255 τ a n := by unfold bd_0_255; rw [e]; exact h
def bd_m1_600 (σ : Sto) (a : Nat) (n : Int) : Prop := ∀ i, 0 ≤ i → i < n → (-1) ≤ σ.I a i ∧ σ.I a i ≤ 600
theorem bd_m1_600_at {σ : Sto} {a : Nat} {n i : Int} (h : bd_m1_600 σ a n) (h0 : 0 ≤ i) (h1 : i < n) : σ.I a i = (-1) ∨ ((-1) < σ.I a i ∧ σ.I a i ≤ 600) := by have := h i h0 h1; omega
theorem bd_m1_600_eq {σ τ : Sto} {a : Nat} {n : Int} (h : bd_m1_600 σ a n) (e : τ.I a = σ.I a) : bd_m1_600 τ a n := by unfold bd_m1_600; rw [e]; exact h
def bd_0_6000 (σ : Sto) (a : Nat) (n : Int) : Prop := ∀ i, 0 ≤ i → i < n → 0 ≤ σ.I a i ∧ σ.I a i ≤ 6000
theorem bd_0_6000_at {σ : Sto} {a : Nat} {n i : Int} (h : bd_0_6000 σ a n) (h0 : 0 ≤ i) (h1 : i < n) : σ.I a i = 0 ∨ (0 < σ.I a i ∧ σ.I a i ≤ 6000) := by have := h i h0 h1; omega
theorem bd_0_6000_eq {σ τ : Sto} {a : Nat} {n : Int} (h : bd_0_6000 σ a n) (e : τ.I a = σ.I a) : bd_0_6000 τ a n := by unfold bd_0_6000; rw [e]; exact h
def bd_0_24000 (σ : Sto) (a : Nat) (n : Int) : Prop := ∀ i, 0 ≤ i → i < n → 0 ≤ σ.I a i ∧ σ.I a i ≤ 24000
theorem bd_0_24000_at {σ : Sto} {a : Nat} {n i : Int} (h : bd_0_24000 σ a n) (h0 : 0 ≤ i) (h1 : i < n) : σ.I a i = 0 ∨ (0 < σ.I a i ∧ σ.I a i ≤ 24000) := by have := h i h0 h1; omega
theorem bd_0_24000_eq {σ τ : Sto} {a : Nat} {n : Int} (h : bd_0_24000 σ a n) (e : τ.I a = σ.I a) : bd_0_24000 τ a n := by unfold bd_0_24000; rw [e]; exact h
def bd_0_60000 (σ : Sto) (a : Nat) (n : Int) : Prop := ∀ i, 0 ≤ i → i < n → 0 ≤ σ.I a i ∧ σ.I a i ≤ 60000
theorem bd_0_60000_at {σ : Sto} {a : Nat} {n i : Int} (h : bd_0_60000 σ a n) (h0 : 0 ≤ i) (h1 : i < n) : σ.I a i = 0 ∨ (0 < σ.I a i ∧ σ.I a i ≤ 60000) := by have := h i h0 h1; omega
theorem bd_0_60000_eq {σ τ : Sto} {a : Nat} {n : Int} (h : bd_0_60000 σ a n) (e : τ.I a = σ.I a) : bd_0_60000 τ a n := by unfold bd_0_60000; rw [e]; exact h
def bd_0_512 (σ : Sto) (a : Nat) (n : Int) : Prop := ∀ i, 0 ≤ i → i < n → 0 ≤ σ.I a i ∧ σ.I a i ≤ 512
theorem bd_0_512_at {σ : Sto} {a : Nat} {n i : Int} (h : bd_0_512 σ a n) (h0 : 0 ≤ i) (h1 : i < n) : σ.I a i = 0 ∨ (0 < σ.I a i ∧ σ.I a i ≤ 512) := by have := h i h0 h1; omega
theorem bd_0_512_eq {σ τ : Sto} {a : Nat} {n : Int} (h : bd_0_512 σ a n) (e : τ.I a = σ.I a) : bd_0_512 τ a n := by unfold bd_0_512; rw [e]; exact h
def bd_0_1000000000000000 (σ : Sto) (a : Nat) (n : Int) : Prop := ∀ i, 0 ≤ i → i < n → 0 ≤ σ.I a i ∧ σ.I a i ≤ 1000000000000000
theorem bd_0_1000000000000000_at {σ : Sto} {a : Nat} {n i : Int} (h : bd_0_1000000000000000 σ a n) (h0 : 0 ≤ i) (h1 : i < n) : σ.I a i = 0 ∨ (0 < σ.I a i ∧ σ.I a i ≤ 1000000000000000) := by have := h i h0 h1; omega
theorem bd_0_1000000000000000_eq {σ τ : Sto} {a : Nat} {n : Int} (h : bd_0_1000000000000000 σ a n) (e : τ.I a = σ.I a) : bd_0_1000000000000000 τ a n := by unfold bd_0_1000000000000000; rw [e]; exact h
def bd_m1_1000000000000000 (σ : Sto) (a : Nat) (n : Int) : Prop := ∀ i, 0 ≤ i → i < n → (-1) ≤ σ.I a i ∧ σ.I a i ≤ 1000000000000000
theorem bd_m1_1000000000000000_at {σ : Sto} {a : Nat} {n i : Int} (h : bd_m1_1000000000000000 σ a n) (h0 : 0 ≤ i) (h1 : i < n) : σ.I a i = (-1) ∨ ((-1) < σ.I a i ∧ σ.I a i ≤ 1000000000000000) := by have := h i h0 h1; omega
theorem bd_m1_1000000000000000_eq {σ τ : Sto} {a : Nat} {n : Int} (h : bd_m1_1000000000000000 σ a n) (e : τ.I a = σ.I a) : bd_m1_1000000000000000 τ a n := by unfold bd_m1_1000000000000000; rw [e]; exact h
def bd_0_2147483647 (σ : Sto) (a : Nat) (n : Int) : Prop := ∀ i, 0 ≤ i → i < n → 0 ≤ σ.I a i ∧ σ.I a i ≤ 2147483647
theorem bd_0_2147483647_at {σ : Sto} {a : Nat} {n i : Int} (h : bd_0_2147483647 σ a n) (h0 : 0 ≤ i) (h1 : i < n) : σ.I a i = 0 ∨ (0 < σ.I a i ∧ σ.I a i ≤ 2147483647) := by have := h i h0 h1; omega
theorem bd_0_2147483647_eq {σ τ : Sto} {a : Nat} {n : Int} (h : bd_0_2147483647 σ a n) (e : τ.I a = σ.I a) : bd_0_2147483647 τ a n := by unfold bd_0_2147483647; rw [e]; exact h
def bd_m1_2147483647 (σ : Sto) (a : Nat) (n : Int) : Prop := ∀ i, 0 ≤ i → i < n → (-1) ≤ σ.I a i ∧ σ.I a i ≤ 2147483647
theorem bd_m1_2147483647_at {σ : Sto} {a : Nat} {n i : Int} (h : bd_m1_2147483647 σ a n) (h0 : 0 ≤ i) (h1 : i < n) : σ.I a i = (-1) ∨ ((-1) < σ.I a i ∧ σ.I a i ≤ 2147483647) := by have := h i h0 h1; omega
theorem bd_m1_2147483647_eq {σ τ : Sto} {a : Nat} {n : Int} (h : bd_m1_2147483647 σ a n) (e : τ.I a = σ.I a) : bd_m1_2147483647 τ a n := by unfold bd_m1_2147483647; rw [e]; exact h
def bd_m1000000_1000000 (σ : Sto) (a : Nat) (n : Int) : Prop := ∀ i, 0 ≤ i → i < n → (-1000000) ≤ σ.I a i ∧ σ.I a i ≤ 1000000
theorem bd_m1000000_1000000_at {σ : Sto} {a : Nat} {n i : Int} (h : bd_m1000000_1000000 σ a n) (h0 : 0 ≤ i) (h1 : i < n) : σ.I a i = (-1000000) ∨ ((-1000000) < σ.I a i ∧ σ.I a i ≤ 1000000) := by have := h i h0 h1; omega
theorem bd_m1000000_1000000_eq {σ τ : Sto} {a : Nat} {n : Int} (h : bd_m1000000_1000000 σ a n) (e : τ.I a = σ.I a) : bd_m1000000_1000000 τ a n := by unfold bd_m1000000_1000000; rw [e]; exact h
end
section
/-! contracts: printed by tools/mk.py out of s44_stems.py -/
set_option maxRecDepth 100000
set_option maxHeartbeats 1500000
/-! stems -/
def e1 (w : Int → Int) (n a : Int) : Prop := 1 ≤ n ∧ w (n - 1) = a
def e2 (w : Int → Int) (n a b : Int) : Prop := 2 ≤ n ∧ w (n - 2) = a ∧ w (n - 1) = b
def e3 (w : Int → Int) (n a b c : Int) : Prop := 3 ≤ n ∧ w (n - 3) = a ∧ w (n - 2) = b ∧ w (n - 1) = c
def e4 (w : Int → Int) (n a b c d : Int) : Prop := 4 ≤ n ∧ w (n - 4) = a ∧ w (n - 3) = b ∧ w (n - 2) = c ∧ w (n - 1) = d
def pIes (w : Int → Int) (n : Int) : Prop := 4 ≤ n ∧ e3 w n 105 101 115 ∧ ¬ e4 w n 97 105 101 115 ∧ ¬ e4 w n 101 105 101 115
def pEs (w : Int → Int) (n : Int) : Prop := 4 ≤ n ∧ e2 w n 101 115 ∧ ¬ e3 w n 97 101 115 ∧ ¬ e3 w n 101 101 115 ∧ ¬ e3 w n 111 101 115
def pS (w : Int → Int) (n : Int) : Prop := 4 ≤ n ∧ e1 w n 115 ∧ ¬ e2 w n 117 115 ∧ ¬ e2 w n 115 115
noncomputable def st1L (w : Int → Int) (n : Int) : Int := if zb (pIes w n) = 1 then n - 2 else if zb (pEs w n) = 1 then n - 1 else if zb (pS w n) = 1 then n - 1 else n
noncomputable def st1W (w : Int → Int) (n : Int) : Int → Int := if zb (pIes w n) = 1 then up1 w (n - 3) 121 else w
def lowW (w : Int → Int) (n : Int) : Prop := 3 ≤ n ∧ alN (fun k => 97 ≤ w k ∧ w k ≤ 122) n
noncomputable def s2a (w : Int → Int) (n : Int) : Int := if zb (e4 w n 115 115 101 115 ∨ e3 w n 105 101 115) = 1 then n - 2 else if zb (¬ e2 w n 115 115 ∧ e1 w n 115) = 1 then n - 1 else n
noncomputable def pEd (w : Int → Int) (n : Int) : Int := if zb (e2 w n 101 100) = 1 then n - 2 else if zb (e3 w n 105 110 103) = 1 then n - 3 else n
def addE (w : Int → Int) (m : Int) : Prop := e2 w m 97 116 ∨ e2 w m 98 108 ∨ e2 w m 105 122
def dblC (w : Int → Int) (m : Int) : Prop := 1 < m ∧ w (m - 1) = w (m - 2) ∧ ¬ vw w (m - 1)
def shpC (w : Int → Int) (m : Int) : Prop := (2 < m ∧ ¬ vw w (m - 3) ∧ vw w (m - 2) ∧ ¬ vw w (m - 1) ∧ w (m - 1) ≠ 119 ∧ w (m - 1) ≠ 120 ∧ w (m - 1) ≠ 121) ∧ mea w m = 1
/-- what is behind ED and ING: the length; whether an e comes -/
noncomputable def s2bL (w : Int → Int) (n : Int) : Int :=
  if zb (e3 w n 101 101 100) = 1 then (if zb (0 < mea w (n - 3)) = 1 then n - 1 else n)
  else if zb (pEd w n = n ∨ ¬ exN (vw w) (pEd w n)) = 1 then n
  else if zb (addE w (pEd w n)) = 1 then pEd w n + 1
  else if zb (dblC w (pEd w n)) = 1 then (if zb (w (pEd w n - 1) = 108 ∨ w (pEd w n - 1) = 115 ∨ w (pEd w n - 1) = 122) = 1 then pEd w n else pEd w n - 1)
  else if zb (shpC w (pEd w n)) = 1 then pEd w n + 1 else pEd w n
noncomputable def s2bW (w : Int → Int) (n : Int) : Int → Int :=
  if zb (¬ e3 w n 101 101 100 ∧ ¬ (pEd w n = n ∨ ¬ exN (vw w) (pEd w n)) ∧ (addE w (pEd w n) ∨ (¬ dblC w (pEd w n) ∧ shpC w (pEd w n)))) = 1 then up1 w (pEd w n) 101 else w
noncomputable def s2cW (w : Int → Int) (n : Int) : Int → Int := if zb (0 < n ∧ w (n - 1) = 121 ∧ exN (vw w) (n - 1)) = 1 then up1 w (n - 1) 105 else w
/-! the suffixes lie in one text -/
def sfC (k : Int) : Int := sc 17 k
def sfN : Int := 220
def sfB (a : Int) : Int := ixF sfC 32 a sfN
def sfE (a : Int) : Int := ixF sfC 44 (sfB a) sfN
def sfQ (w : Int → Int) (n a b : Int) : Prop := b - a ≤ n ∧ eqA w sfC (n - (b - a)) a (b - a)
/-- where the first one that fits begins; -1 for none -/
noncomputable def sfS (w : Int → Int) (n : Int) : Int → Int ⊕ Int := fun a => if sfN ≤ a then .inr (-1) else if zb (sfQ w n a (sfB a)) = 1 then .inr a else .inl (sfE a + 1)
noncomputable def sfF (w : Int → Int) (n a : Int) : Int := rs (-1) (sfS w n) a
noncomputable def s2dL (w : Int → Int) (n : Int) : Int := if zb (0 ≤ sfF w n 0 ∧ 0 < mea w (n - (sfB (sfF w n 0) - sfF w n 0))) = 1 then n - (sfB (sfF w n 0) - sfF w n 0) + (sfE (sfF w n 0) - sfB (sfF w n 0) - 1) else n
noncomputable def s2dW (w : Int → Int) (n : Int) : Int → Int := if zb (0 ≤ sfF w n 0 ∧ 0 < mea w (n - (sfB (sfF w n 0) - sfF w n 0))) = 1 then (fun k => if n - (sfB (sfF w n 0) - sfF w n 0) ≤ k ∧ k < n - (sfB (sfF w n 0) - sfF w n 0) + (sfE (sfF w n 0) - sfB (sfF w n 0) - 1) then sfC (sfB (sfF w n 0) + 1 + (k - (n - (sfB (sfF w n 0) - sfF w n 0)))) else w k) else w
noncomputable def s2A (w : Int → Int) (n : Int) : Int × (Int → Int) := (s2bL w (s2a w n), s2cW (s2bW w (s2a w n)) (s2bL w (s2a w n)))
noncomputable def st2L (w : Int → Int) (n : Int) : Int := if zb (lowW w n) = 1 then s2dL (s2A w n).2 (s2A w n).1 else n
noncomputable def st2W (w : Int → Int) (n : Int) : Int → Int := if zb (lowW w n) = 1 then s2dW (s2A w n).2 (s2A w n).1 else w
noncomputable def stmL (m : Int) (w : Int → Int) (n : Int) : Int := if m = 1 then st1L w n else if m = 2 then st2L w n else n
noncomputable def stmW (m : Int) (w : Int → Int) (n : Int) : Int → Int := if m = 1 then st1W w n else if m = 2 then st2W w n else w

/-! what the first n bytes decide -/
def EQ (n : Int) (w v : Int → Int) : Prop := ∀ k, 0 ≤ k → k < n → w k = v k
theorem EQ.sym {n : Int} {w v : Int → Int} (h : EQ n w v) : EQ n v w := fun k a b => (h k a b).symm
theorem EQ.up {n y a : Int} {w v : Int → Int} (h : EQ n w v) : EQ n (up1 w y a) (up1 v y a) := fun k k0 k1 => by
  unfold up1
  by_cases q : k = y
  · rw [if_pos q, if_pos q]
  · rw [if_neg q, if_neg q]; exact h k k0 k1
section ECG
variable {N n : Int} {w v : Int → Int}
theorem e1_cg (h : EQ N w v) (hn : n ≤ N) {a : Int} : e1 w n a ↔ e1 v n a := by
  unfold e1
  by_cases q : 1 ≤ n
  · rw [h (n - 1) (by omega) (by omega)]
  · exact ⟨fun z => absurd z.1 q, fun z => absurd z.1 q⟩
theorem e2_cg (h : EQ N w v) (hn : n ≤ N) {a b : Int} : e2 w n a b ↔ e2 v n a b := by
  unfold e2
  by_cases q : 2 ≤ n
  · rw [h (n - 1) (by omega) (by omega), h (n - 2) (by omega) (by omega)]
  · exact ⟨fun z => absurd z.1 q, fun z => absurd z.1 q⟩
theorem e3_cg (h : EQ N w v) (hn : n ≤ N) {a b c : Int} : e3 w n a b c ↔ e3 v n a b c := by
  unfold e3
  by_cases q : 3 ≤ n
  · rw [h (n - 1) (by omega) (by omega), h (n - 2) (by omega) (by omega), h (n - 3) (by omega) (by omega)]
  · exact ⟨fun z => absurd z.1 q, fun z => absurd z.1 q⟩
theorem e4_cg (h : EQ N w v) (hn : n ≤ N) {a b c d : Int} : e4 w n a b c d ↔ e4 v n a b c d := by
  unfold e4
  by_cases q : 4 ≤ n
  · rw [h (n - 1) (by omega) (by omega), h (n - 2) (by omega) (by omega), h (n - 3) (by omega) (by omega), h (n - 4) (by omega) (by omega)]
  · exact ⟨fun z => absurd z.1 q, fun z => absurd z.1 q⟩
theorem vw_cg (h : EQ N w v) {k : Int} (h0 : 0 ≤ k) (h1 : k < N) : vw w k ↔ vw v k := by
  obtain ⟨j, rfl⟩ : ∃ j : Nat, k = j := ⟨k.toNat, by omega⟩
  induction j with
  | zero => rw [vw_0 w _ (by rfl), vw_0 v _ (by rfl), h _ h0 h1]
  | succ j ih => rw [vw_s w j _ (by omega) (by omega), vw_s v j _ (by omega) (by omega), h _ h0 h1, ih (by omega) (by omega)]
theorem exv_cg (h : EQ N w v) (hn : n ≤ N) : exN (vw w) n ↔ exN (vw v) n := exN_cg (fun k k0 k1 => vw_cg h k0 (by omega))
theorem mea_cg (h : EQ N w v) (hn : n ≤ N) : mea w n = mea v n := by
  unfold mea
  exact cn_cg (fun k k0 k1 => and_congr (vw_cg h k0 (by omega)) (not_congr (vw_cg h (by omega) (by omega))))
theorem st1L_cg (h : EQ N w v) (hn : n ≤ N) : st1L w n = st1L v n := by
  unfold st1L pIes pEs pS
  rw [zb_iff (and_congr Iff.rfl (and_congr (e3_cg h hn) (and_congr (not_congr (e4_cg h hn)) (not_congr (e4_cg h hn))))), zb_iff (and_congr Iff.rfl (and_congr (e2_cg h hn) (and_congr (not_congr (e3_cg h hn)) (and_congr (not_congr (e3_cg h hn)) (not_congr (e3_cg h hn)))))), zb_iff (and_congr Iff.rfl (and_congr (e1_cg h hn) (and_congr (not_congr (e2_cg h hn)) (not_congr (e2_cg h hn)))))]
theorem st1W_cg (h : EQ N w v) (hn : n ≤ N) : EQ N (st1W w n) (st1W v n) := by
  unfold st1W pIes
  rw [zb_iff (and_congr Iff.rfl (and_congr (e3_cg h hn) (and_congr (not_congr (e4_cg h hn)) (not_congr (e4_cg h hn)))))]
  split
  · exact h.up
  · exact h
theorem low_cg (h : EQ N w v) (hn : n ≤ N) : lowW w n ↔ lowW v n := by
  unfold lowW
  exact and_congr Iff.rfl (alN_cg (fun k k0 k1 => by rw [h k k0 (by omega)]))
theorem s2a_cg (h : EQ N w v) (hn : n ≤ N) : s2a w n = s2a v n := by
  unfold s2a
  rw [zb_iff (or_congr (e4_cg h hn) (e3_cg h hn)), zb_iff (and_congr (not_congr (e2_cg h hn)) (e1_cg h hn))]
theorem pEd_cg (h : EQ N w v) (hn : n ≤ N) : pEd w n = pEd v n := by
  unfold pEd
  rw [zb_iff (e2_cg h hn), zb_iff (e3_cg h hn)]
theorem pEd_le : pEd w n ≤ n := by
  unfold pEd
  split
  · omega
  · split <;> omega
theorem addE_cg (h : EQ N w v) (hn : n ≤ N) : addE w n ↔ addE v n := or_congr (e2_cg h hn) (or_congr (e2_cg h hn) (e2_cg h hn))
theorem dbl_cg (h : EQ N w v) (hn : n ≤ N) : dblC w n ↔ dblC v n := by
  unfold dblC
  by_cases q : 1 < n
  · rw [h (n - 1) (by omega) (by omega), h (n - 2) (by omega) (by omega)]
    exact and_congr Iff.rfl (and_congr Iff.rfl (not_congr (vw_cg h (by omega) (by omega))))
  · exact ⟨fun z => absurd z.1 q, fun z => absurd z.1 q⟩
theorem shp_cg (h : EQ N w v) (hn : n ≤ N) : shpC w n ↔ shpC v n := by
  unfold shpC
  rw [mea_cg h hn]
  refine and_congr ?_ Iff.rfl
  by_cases q : 2 < n
  · rw [h (n - 1) (by omega) (by omega)]
    exact and_congr Iff.rfl (and_congr (not_congr (vw_cg h (by omega) (by omega))) (and_congr (vw_cg h (by omega) (by omega)) (and_congr (not_congr (vw_cg h (by omega) (by omega))) Iff.rfl)))
  · exact ⟨fun z => absurd z.1 q, fun z => absurd z.1 q⟩
theorem s2bL_cg (h : EQ N w v) (hn : n ≤ N) : s2bL w n = s2bL v n := by
  unfold s2bL
  have hp := pEd_le (w := v) (n := n)
  rw [pEd_cg h hn, zb_iff (e3_cg h hn), mea_cg h (n := n - 3) (by omega), zb_iff (or_congr Iff.rfl (not_congr (exv_cg h (n := pEd v n) (by omega)))), zb_iff (addE_cg h (n := pEd v n) (by omega)), zb_iff (dbl_cg h (n := pEd v n) (by omega)), zb_iff (shp_cg h (n := pEd v n) (by omega))]
  by_cases q : dblC v (pEd v n)
  · have q1 : 1 < pEd v n := q.1
    rw [h (pEd v n - 1) (by omega) (by omega)]
  · rw [if_neg (c := zb (dblC v (pEd v n)) = 1) (by rw [zb_f q]; omega), if_neg (c := zb (dblC v (pEd v n)) = 1) (by rw [zb_f q]; omega)]
theorem s2bW_cg (h : EQ N w v) (hn : n ≤ N) : EQ N (s2bW w n) (s2bW v n) := by
  unfold s2bW
  have hp := pEd_le (w := v) (n := n)
  rw [pEd_cg h hn, zb_iff (and_congr (not_congr (e3_cg h hn)) (and_congr (not_congr (or_congr Iff.rfl (not_congr (exv_cg h (n := pEd v n) (by omega))))) (or_congr (addE_cg h (n := pEd v n) (by omega)) (and_congr (not_congr (dbl_cg h (n := pEd v n) (by omega))) (shp_cg h (n := pEd v n) (by omega))))))]
  split
  · exact h.up
  · exact h
theorem s2cW_cg (h : EQ N w v) (hn : n ≤ N) : EQ N (s2cW w n) (s2cW v n) := by
  unfold s2cW
  have e : (0 < n ∧ w (n - 1) = 121 ∧ exN (vw w) (n - 1)) ↔ (0 < n ∧ v (n - 1) = 121 ∧ exN (vw v) (n - 1)) := by
    by_cases q : 0 < n
    · rw [h (n - 1) (by omega) (by omega), exv_cg h (n := n - 1) (by omega)]
    · exact ⟨fun z => absurd z.1 q, fun z => absurd z.1 q⟩
  rw [zb_iff e]
  split
  · exact h.up
  · exact h
theorem sfQ_cg (h : EQ N w v) (hn : n ≤ N) {a b : Int} : sfQ w n a b ↔ sfQ v n a b := by
  unfold sfQ
  by_cases q : b - a ≤ n
  · refine and_congr Iff.rfl (alN_cg (fun k k0 k1 => ?_))
    rw [h (n - (b - a) + k) (by omega) (by omega)]
  · exact ⟨fun z => absurd z.1 q, fun z => absurd z.1 q⟩
theorem sfF_cg (h : EQ N w v) (hn : n ≤ N) {a : Int} : sfF w n a = sfF v n a := by
  unfold sfF
  have e : sfS w n = sfS v n := by
    funext a
    unfold sfS
    rw [zb_iff (sfQ_cg h hn)]
  rw [e]
end ECG
theorem rs_inv {S R : Type} {d : R} {st : S → S ⊕ R} {I : S → Prop} {G : R → Prop} (h1 : ∀ s s', I s → st s = .inl s' → I s') (h2 : ∀ s r, I s → st s = .inr r → G r) (hd : G d) : ∀ s, I s → G (rs d st s) := by
  intro s hs
  by_cases he : ∃ r k, itN st k s = some r
  · obtain ⟨r, k, hk⟩ := he
    induction k generalizing s with
    | zero => cases hk
    | succ k ih =>
      have hk' : (match st s with | .inl s' => itN st k s' | .inr r => some r) = some r := hk
      cases q : st s with
      | inl s' => rw [q] at hk'; rw [rs_s q]; exact ih s' (h1 s s' hs q) hk'
      | inr r' => rw [rs_e q]; exact h2 s r' hs q
  · unfold rs pickR
    rw [dif_neg (fun ⟨r, k, z⟩ => he ⟨r, k, z⟩)]
    exact hd

/-! the suffixes, one by one -/
def sfT : List Int := [0, 12, 24, 34, 44, 53, 61, 73, 83, 92, 101, 113, 125, 137, 146, 156, 167, 176, 183, 192, 201, 209, 214, 220]
theorem sfT_all : ∀ a ∈ sfT, (0 ≤ a ∧ a ≤ sfN) ∧ (a = sfN ∨ (a < sfB a ∧ sfB a < sfE a ∧ sfE a < sfN ∧ sfE a - sfB a - 1 ≤ sfB a - a ∧ sfB a - a ≤ 7 ∧ sfE a + 1 ∈ sfT)) := by decide +kernel
theorem sfF_at {w : Int → Int} {n : Int} : ∀ a, a ∈ sfT → sfF w n a = -1 ∨ (sfF w n a ∈ sfT ∧ sfF w n a < sfN ∧ sfQ w n (sfF w n a) (sfB (sfF w n a))) := by
  refine rs_inv (I := fun a => a ∈ sfT) (G := fun r => r = -1 ∨ (r ∈ sfT ∧ r < sfN ∧ sfQ w n r (sfB r))) ?_ ?_ (Or.inl rfl)
  · intro s s' hs h
    obtain ⟨h1, h2⟩ := sfT_all s hs
    unfold sfS at h
    by_cases q : sfN ≤ s
    · rw [if_pos q] at h; cases h
    · rw [if_neg q] at h
      by_cases q2 : zb (sfQ w n s (sfB s)) = 1
      · rw [if_pos q2] at h; cases h
      · rw [if_neg q2] at h
        cases h
        rcases h2 with z | z
        · omega
        · exact z.2.2.2.2.2
  · intro s r hs h
    unfold sfS at h
    by_cases q : sfN ≤ s
    · rw [if_pos q] at h; cases h; exact Or.inl rfl
    · rw [if_neg q] at h
      by_cases q2 : zb (sfQ w n s (sfB s)) = 1
      · rw [if_pos q2] at h; cases h; exact Or.inr ⟨hs, by omega, zb_1.mp q2⟩
      · rw [if_neg q2] at h; cases h
/-- what is known of the suffix that fits -/
theorem sf_b {w : Int → Int} {n : Int} (h : 0 ≤ sfF w n 0) : (0 ≤ sfF w n 0 ∧ sfF w n 0 < sfN) ∧ sfF w n 0 < sfB (sfF w n 0) ∧ sfB (sfF w n 0) < sfE (sfF w n 0) ∧ sfE (sfF w n 0) < sfN ∧ sfE (sfF w n 0) - sfB (sfF w n 0) - 1 ≤ sfB (sfF w n 0) - sfF w n 0 ∧ sfB (sfF w n 0) - sfF w n 0 ≤ n ∧ sfB (sfF w n 0) - sfF w n 0 ≤ 7 := by
  rcases sfF_at (w := w) (n := n) 0 (by decide) with z | ⟨z1, z2, z3⟩
  · omega
  · obtain ⟨h1, h2⟩ := sfT_all _ z1
    have := z3.1
    rcases h2 with y | y
    · omega
    · omega
section ECG2
variable {N n : Int} {w v : Int → Int}
theorem s2d_if (h : EQ N w v) (hn : n ≤ N) : zb (0 ≤ sfF w n 0 ∧ 0 < mea w (n - (sfB (sfF w n 0) - sfF w n 0))) = zb (0 ≤ sfF v n 0 ∧ 0 < mea v (n - (sfB (sfF v n 0) - sfF v n 0))) := by
  rw [sfF_cg h hn]
  refine zb_iff ⟨fun z => ⟨z.1, ?_⟩, fun z => ⟨z.1, ?_⟩⟩
  · have := sf_b z.1
    rw [← mea_cg h (n := n - (sfB (sfF v n 0) - sfF v n 0)) (by omega)]; exact z.2
  · have := sf_b z.1
    rw [mea_cg h (n := n - (sfB (sfF v n 0) - sfF v n 0)) (by omega)]; exact z.2
theorem s2dL_cg (h : EQ N w v) (hn : n ≤ N) : s2dL w n = s2dL v n := by
  unfold s2dL
  rw [s2d_if h hn, sfF_cg h hn]
theorem s2dW_cg (h : EQ N w v) (hn : n ≤ N) : EQ N (s2dW w n) (s2dW v n) := by
  unfold s2dW
  rw [s2d_if h hn, sfF_cg h hn]
  split
  · intro k k0 k1
    show (if _ then _ else _) = (if _ then _ else _)
    split
    · rfl
    · exact h k k0 k1
  · exact h
theorem s2dL_b (h0 : 0 ≤ n) : 0 ≤ s2dL w n ∧ s2dL w n ≤ n := by
  unfold s2dL
  split
  · rename_i q
    have := sf_b (zb_1.mp q).1
    omega
  · omega
theorem s2a_b (h0 : 0 ≤ n) : 0 ≤ s2a w n ∧ s2a w n ≤ n := by
  unfold s2a
  split
  · rename_i q
    rcases zb_1.mp q with z | z
    · have := z.1; omega
    · have := z.1; omega
  · split
    · rename_i q
      have := (zb_1.mp q).2.1; omega
    · omega
theorem pEd_b (h0 : 0 ≤ n) : 0 ≤ pEd w n ∧ (pEd w n = n ∨ pEd w n ≤ n - 2) := by
  unfold pEd
  split
  · rename_i q
    have := (zb_1.mp q).1; omega
  · split
    · rename_i q
      have := (zb_1.mp q).1; omega
    · omega
theorem s2bL_b (h0 : 0 ≤ n) : 0 ≤ s2bL w n ∧ s2bL w n ≤ n := by
  have hp := pEd_b (w := w) h0
  unfold s2bL
  by_cases q1 : zb (e3 w n 101 101 100) = 1
  · rw [if_pos q1]
    have := (zb_1.mp q1).1
    split <;> omega
  · rw [if_neg q1]
    by_cases q2 : zb (pEd w n = n ∨ ¬ exN (vw w) (pEd w n)) = 1
    · rw [if_pos q2]; omega
    · rw [if_neg q2]
      have q3 : ¬ pEd w n = n := fun z => q2 (zb_t (Or.inl z))
      by_cases q4 : zb (addE w (pEd w n)) = 1
      · rw [if_pos q4]; omega
      · rw [if_neg q4]
        by_cases q5 : zb (dblC w (pEd w n)) = 1
        · rw [if_pos q5]
          have := (zb_1.mp q5).1
          split <;> omega
        · rw [if_neg q5]
          split <;> omega
theorem st1L_b (h0 : 0 ≤ n) : 0 ≤ st1L w n ∧ st1L w n ≤ n := by
  unfold st1L
  split
  · rename_i q
    have := (zb_1.mp q).1; omega
  · split
    · rename_i q
      have := (zb_1.mp q).1; omega
    · split
      · rename_i q
        have := (zb_1.mp q).1; omega
      · omega
theorem st2L_b (h0 : 0 ≤ n) : 0 ≤ st2L w n ∧ st2L w n ≤ n := by
  unfold st2L
  split
  · have a := s2a_b (w := w) h0
    have b := s2bL_b (w := w) (n := s2a w n) a.1
    have c := s2dL_b (w := (s2A w n).2) (n := (s2A w n).1) b.1
    have e : (s2A w n).1 = s2bL w (s2a w n) := rfl
    omega
  · omega
theorem stmL_b (m : Int) (h0 : 0 ≤ n) : 0 ≤ stmL m w n ∧ stmL m w n ≤ n := by
  unfold stmL
  split
  · exact st1L_b h0
  · split
    · exact st2L_b h0
    · omega
theorem st2_cg (h : EQ N w v) (h0 : 0 ≤ n) (hn : n ≤ N) : st2L w n = st2L v n ∧ EQ N (st2W w n) (st2W v n) := by
  unfold st2L st2W
  rw [zb_iff (low_cg h hn)]
  split
  · have a := s2a_b (w := v) h0
    have b := s2bL_b (w := v) (n := s2a v n) a.1
    have e1 : (s2A w n).1 = (s2A v n).1 := by show s2bL w (s2a w n) = s2bL v (s2a v n); rw [s2a_cg h hn]; exact s2bL_cg h (by omega)
    have e2 : EQ N (s2A w n).2 (s2A v n).2 := by
      show EQ N (s2cW (s2bW w (s2a w n)) (s2bL w (s2a w n))) (s2cW (s2bW v (s2a v n)) (s2bL v (s2a v n)))
      rw [s2a_cg h hn, s2bL_cg h (n := s2a v n) (by omega)]
      exact s2cW_cg (s2bW_cg h (by omega)) (by omega)
    have e3 : (s2A v n).1 ≤ N := by show s2bL v (s2a v n) ≤ N; omega
    rw [e1]
    exact ⟨s2dL_cg e2 e3, s2dW_cg e2 e3⟩
  · exact ⟨rfl, h⟩
theorem stmL_cg (m : Int) (h : EQ N w v) (h0 : 0 ≤ n) (hn : n ≤ N) : stmL m w n = stmL m v n := by
  unfold stmL
  rw [st1L_cg h hn, (st2_cg h h0 hn).1]
theorem stmW_cg (m : Int) (h : EQ N w v) (h0 : 0 ≤ n) (hn : n ≤ N) : EQ N (stmW m w n) (stmW m v n) := by
  unfold stmW
  split
  · exact st1W_cg h hn
  · split
    · exact (st2_cg h h0 hn).2
    · exact h
end ECG2
end
section
/-! contracts: printed by tools/mk.py out of s44b_stemM.py -/
set_option maxRecDepth 100000
set_option maxHeartbeats 1500000
/-- a word of n bytes ends with String i -/
def ew (w : Int → Int) (i : Nat) (n : Int) : Prop := sl i ≤ n ∧ eqA w (sc i) (n - sl i) 0 (sl i)
theorem ew_0 {w : Int → Int} {n : Int} : ew w 0 n ↔ e3 w n 105 101 115 := by
  constructor
  · rintro ⟨h, q⟩
    have a0 : w (n - 3 + 0) = 105 := q 0 (by decide) (by decide)
    have a1 : w (n - 3 + 1) = 101 := q 1 (by decide) (by decide)
    have a2 : w (n - 3 + 2) = 115 := q 2 (by decide) (by decide)
    exact ⟨h, (by rw [show n - 3 = n - 3 + 0 by omega]; exact a0), (by rw [show n - 2 = n - 3 + 1 by omega]; exact a1), (by rw [show n - 1 = n - 3 + 2 by omega]; exact a2)⟩
  · rintro ⟨h, a0, a1, a2⟩
    refine ⟨h, fun k k0 k1 => ?_⟩
    have k2 : k < 3 := k1
    have : k = 0 ∨ k = 1 ∨ k = 2 := by omega
    rcases this with rfl | rfl | rfl
    · show w (n - 3 + 0) = 105
      rw [show n - 3 + 0 = n - 3 by omega]; exact a0
    · show w (n - 3 + 1) = 101
      rw [show n - 3 + 1 = n - 2 by omega]; exact a1
    · show w (n - 3 + 2) = 115
      rw [show n - 3 + 2 = n - 1 by omega]; exact a2
theorem ew_1 {w : Int → Int} {n : Int} : ew w 1 n ↔ e4 w n 97 105 101 115 := by
  constructor
  · rintro ⟨h, q⟩
    have a0 : w (n - 4 + 0) = 97 := q 0 (by decide) (by decide)
    have a1 : w (n - 4 + 1) = 105 := q 1 (by decide) (by decide)
    have a2 : w (n - 4 + 2) = 101 := q 2 (by decide) (by decide)
    have a3 : w (n - 4 + 3) = 115 := q 3 (by decide) (by decide)
    exact ⟨h, (by rw [show n - 4 = n - 4 + 0 by omega]; exact a0), (by rw [show n - 3 = n - 4 + 1 by omega]; exact a1), (by rw [show n - 2 = n - 4 + 2 by omega]; exact a2), (by rw [show n - 1 = n - 4 + 3 by omega]; exact a3)⟩
  · rintro ⟨h, a0, a1, a2, a3⟩
    refine ⟨h, fun k k0 k1 => ?_⟩
    have k2 : k < 4 := k1
    have : k = 0 ∨ k = 1 ∨ k = 2 ∨ k = 3 := by omega
    rcases this with rfl | rfl | rfl | rfl
    · show w (n - 4 + 0) = 97
      rw [show n - 4 + 0 = n - 4 by omega]; exact a0
    · show w (n - 4 + 1) = 105
      rw [show n - 4 + 1 = n - 3 by omega]; exact a1
    · show w (n - 4 + 2) = 101
      rw [show n - 4 + 2 = n - 2 by omega]; exact a2
    · show w (n - 4 + 3) = 115
      rw [show n - 4 + 3 = n - 1 by omega]; exact a3
theorem ew_2 {w : Int → Int} {n : Int} : ew w 2 n ↔ e4 w n 101 105 101 115 := by
  constructor
  · rintro ⟨h, q⟩
    have a0 : w (n - 4 + 0) = 101 := q 0 (by decide) (by decide)
    have a1 : w (n - 4 + 1) = 105 := q 1 (by decide) (by decide)
    have a2 : w (n - 4 + 2) = 101 := q 2 (by decide) (by decide)
    have a3 : w (n - 4 + 3) = 115 := q 3 (by decide) (by decide)
    exact ⟨h, (by rw [show n - 4 = n - 4 + 0 by omega]; exact a0), (by rw [show n - 3 = n - 4 + 1 by omega]; exact a1), (by rw [show n - 2 = n - 4 + 2 by omega]; exact a2), (by rw [show n - 1 = n - 4 + 3 by omega]; exact a3)⟩
  · rintro ⟨h, a0, a1, a2, a3⟩
    refine ⟨h, fun k k0 k1 => ?_⟩
    have k2 : k < 4 := k1
    have : k = 0 ∨ k = 1 ∨ k = 2 ∨ k = 3 := by omega
    rcases this with rfl | rfl | rfl | rfl
    · show w (n - 4 + 0) = 101
      rw [show n - 4 + 0 = n - 4 by omega]; exact a0
    · show w (n - 4 + 1) = 105
      rw [show n - 4 + 1 = n - 3 by omega]; exact a1
    · show w (n - 4 + 2) = 101
      rw [show n - 4 + 2 = n - 2 by omega]; exact a2
    · show w (n - 4 + 3) = 115
      rw [show n - 4 + 3 = n - 1 by omega]; exact a3
theorem ew_3 {w : Int → Int} {n : Int} : ew w 3 n ↔ e2 w n 101 115 := by
  constructor
  · rintro ⟨h, q⟩
    have a0 : w (n - 2 + 0) = 101 := q 0 (by decide) (by decide)
    have a1 : w (n - 2 + 1) = 115 := q 1 (by decide) (by decide)
    exact ⟨h, (by rw [show n - 2 = n - 2 + 0 by omega]; exact a0), (by rw [show n - 1 = n - 2 + 1 by omega]; exact a1)⟩
  · rintro ⟨h, a0, a1⟩
    refine ⟨h, fun k k0 k1 => ?_⟩
    have k2 : k < 2 := k1
    have : k = 0 ∨ k = 1 := by omega
    rcases this with rfl | rfl
    · show w (n - 2 + 0) = 101
      rw [show n - 2 + 0 = n - 2 by omega]; exact a0
    · show w (n - 2 + 1) = 115
      rw [show n - 2 + 1 = n - 1 by omega]; exact a1
theorem ew_4 {w : Int → Int} {n : Int} : ew w 4 n ↔ e3 w n 97 101 115 := by
  constructor
  · rintro ⟨h, q⟩
    have a0 : w (n - 3 + 0) = 97 := q 0 (by decide) (by decide)
    have a1 : w (n - 3 + 1) = 101 := q 1 (by decide) (by decide)
    have a2 : w (n - 3 + 2) = 115 := q 2 (by decide) (by decide)
    exact ⟨h, (by rw [show n - 3 = n - 3 + 0 by omega]; exact a0), (by rw [show n - 2 = n - 3 + 1 by omega]; exact a1), (by rw [show n - 1 = n - 3 + 2 by omega]; exact a2)⟩
  · rintro ⟨h, a0, a1, a2⟩
    refine ⟨h, fun k k0 k1 => ?_⟩
    have k2 : k < 3 := k1
    have : k = 0 ∨ k = 1 ∨ k = 2 := by omega
    rcases this with rfl | rfl | rfl
    · show w (n - 3 + 0) = 97
      rw [show n - 3 + 0 = n - 3 by omega]; exact a0
    · show w (n - 3 + 1) = 101
      rw [show n - 3 + 1 = n - 2 by omega]; exact a1
    · show w (n - 3 + 2) = 115
      rw [show n - 3 + 2 = n - 1 by omega]; exact a2
theorem ew_5 {w : Int → Int} {n : Int} : ew w 5 n ↔ e3 w n 101 101 115 := by
  constructor
  · rintro ⟨h, q⟩
    have a0 : w (n - 3 + 0) = 101 := q 0 (by decide) (by decide)
    have a1 : w (n - 3 + 1) = 101 := q 1 (by decide) (by decide)
    have a2 : w (n - 3 + 2) = 115 := q 2 (by decide) (by decide)
    exact ⟨h, (by rw [show n - 3 = n - 3 + 0 by omega]; exact a0), (by rw [show n - 2 = n - 3 + 1 by omega]; exact a1), (by rw [show n - 1 = n - 3 + 2 by omega]; exact a2)⟩
  · rintro ⟨h, a0, a1, a2⟩
    refine ⟨h, fun k k0 k1 => ?_⟩
    have k2 : k < 3 := k1
    have : k = 0 ∨ k = 1 ∨ k = 2 := by omega
    rcases this with rfl | rfl | rfl
    · show w (n - 3 + 0) = 101
      rw [show n - 3 + 0 = n - 3 by omega]; exact a0
    · show w (n - 3 + 1) = 101
      rw [show n - 3 + 1 = n - 2 by omega]; exact a1
    · show w (n - 3 + 2) = 115
      rw [show n - 3 + 2 = n - 1 by omega]; exact a2
theorem ew_6 {w : Int → Int} {n : Int} : ew w 6 n ↔ e3 w n 111 101 115 := by
  constructor
  · rintro ⟨h, q⟩
    have a0 : w (n - 3 + 0) = 111 := q 0 (by decide) (by decide)
    have a1 : w (n - 3 + 1) = 101 := q 1 (by decide) (by decide)
    have a2 : w (n - 3 + 2) = 115 := q 2 (by decide) (by decide)
    exact ⟨h, (by rw [show n - 3 = n - 3 + 0 by omega]; exact a0), (by rw [show n - 2 = n - 3 + 1 by omega]; exact a1), (by rw [show n - 1 = n - 3 + 2 by omega]; exact a2)⟩
  · rintro ⟨h, a0, a1, a2⟩
    refine ⟨h, fun k k0 k1 => ?_⟩
    have k2 : k < 3 := k1
    have : k = 0 ∨ k = 1 ∨ k = 2 := by omega
    rcases this with rfl | rfl | rfl
    · show w (n - 3 + 0) = 111
      rw [show n - 3 + 0 = n - 3 by omega]; exact a0
    · show w (n - 3 + 1) = 101
      rw [show n - 3 + 1 = n - 2 by omega]; exact a1
    · show w (n - 3 + 2) = 115
      rw [show n - 3 + 2 = n - 1 by omega]; exact a2
theorem ew_7 {w : Int → Int} {n : Int} : ew w 7 n ↔ e1 w n 115 := by
  constructor
  · rintro ⟨h, q⟩
    have a0 : w (n - 1 + 0) = 115 := q 0 (by decide) (by decide)
    exact ⟨h, (by rw [show n - 1 = n - 1 + 0 by omega]; exact a0)⟩
  · rintro ⟨h, a0⟩
    refine ⟨h, fun k k0 k1 => ?_⟩
    have k2 : k < 1 := k1
    have : k = 0 := by omega
    rcases this with rfl
    · show w (n - 1 + 0) = 115
      rw [show n - 1 + 0 = n - 1 by omega]; exact a0
theorem ew_8 {w : Int → Int} {n : Int} : ew w 8 n ↔ e2 w n 117 115 := by
  constructor
  · rintro ⟨h, q⟩
    have a0 : w (n - 2 + 0) = 117 := q 0 (by decide) (by decide)
    have a1 : w (n - 2 + 1) = 115 := q 1 (by decide) (by decide)
    exact ⟨h, (by rw [show n - 2 = n - 2 + 0 by omega]; exact a0), (by rw [show n - 1 = n - 2 + 1 by omega]; exact a1)⟩
  · rintro ⟨h, a0, a1⟩
    refine ⟨h, fun k k0 k1 => ?_⟩
    have k2 : k < 2 := k1
    have : k = 0 ∨ k = 1 := by omega
    rcases this with rfl | rfl
    · show w (n - 2 + 0) = 117
      rw [show n - 2 + 0 = n - 2 by omega]; exact a0
    · show w (n - 2 + 1) = 115
      rw [show n - 2 + 1 = n - 1 by omega]; exact a1
theorem ew_9 {w : Int → Int} {n : Int} : ew w 9 n ↔ e2 w n 115 115 := by
  constructor
  · rintro ⟨h, q⟩
    have a0 : w (n - 2 + 0) = 115 := q 0 (by decide) (by decide)
    have a1 : w (n - 2 + 1) = 115 := q 1 (by decide) (by decide)
    exact ⟨h, (by rw [show n - 2 = n - 2 + 0 by omega]; exact a0), (by rw [show n - 1 = n - 2 + 1 by omega]; exact a1)⟩
  · rintro ⟨h, a0, a1⟩
    refine ⟨h, fun k k0 k1 => ?_⟩
    have k2 : k < 2 := k1
    have : k = 0 ∨ k = 1 := by omega
    rcases this with rfl | rfl
    · show w (n - 2 + 0) = 115
      rw [show n - 2 + 0 = n - 2 by omega]; exact a0
    · show w (n - 2 + 1) = 115
      rw [show n - 2 + 1 = n - 1 by omega]; exact a1
theorem ew_10 {w : Int → Int} {n : Int} : ew w 10 n ↔ e4 w n 115 115 101 115 := by
  constructor
  · rintro ⟨h, q⟩
    have a0 : w (n - 4 + 0) = 115 := q 0 (by decide) (by decide)
    have a1 : w (n - 4 + 1) = 115 := q 1 (by decide) (by decide)
    have a2 : w (n - 4 + 2) = 101 := q 2 (by decide) (by decide)
    have a3 : w (n - 4 + 3) = 115 := q 3 (by decide) (by decide)
    exact ⟨h, (by rw [show n - 4 = n - 4 + 0 by omega]; exact a0), (by rw [show n - 3 = n - 4 + 1 by omega]; exact a1), (by rw [show n - 2 = n - 4 + 2 by omega]; exact a2), (by rw [show n - 1 = n - 4 + 3 by omega]; exact a3)⟩
  · rintro ⟨h, a0, a1, a2, a3⟩
    refine ⟨h, fun k k0 k1 => ?_⟩
    have k2 : k < 4 := k1
    have : k = 0 ∨ k = 1 ∨ k = 2 ∨ k = 3 := by omega
    rcases this with rfl | rfl | rfl | rfl
    · show w (n - 4 + 0) = 115
      rw [show n - 4 + 0 = n - 4 by omega]; exact a0
    · show w (n - 4 + 1) = 115
      rw [show n - 4 + 1 = n - 3 by omega]; exact a1
    · show w (n - 4 + 2) = 101
      rw [show n - 4 + 2 = n - 2 by omega]; exact a2
    · show w (n - 4 + 3) = 115
      rw [show n - 4 + 3 = n - 1 by omega]; exact a3
theorem ew_11 {w : Int → Int} {n : Int} : ew w 11 n ↔ e3 w n 101 101 100 := by
  constructor
  · rintro ⟨h, q⟩
    have a0 : w (n - 3 + 0) = 101 := q 0 (by decide) (by decide)
    have a1 : w (n - 3 + 1) = 101 := q 1 (by decide) (by decide)
    have a2 : w (n - 3 + 2) = 100 := q 2 (by decide) (by decide)
    exact ⟨h, (by rw [show n - 3 = n - 3 + 0 by omega]; exact a0), (by rw [show n - 2 = n - 3 + 1 by omega]; exact a1), (by rw [show n - 1 = n - 3 + 2 by omega]; exact a2)⟩
  · rintro ⟨h, a0, a1, a2⟩
    refine ⟨h, fun k k0 k1 => ?_⟩
    have k2 : k < 3 := k1
    have : k = 0 ∨ k = 1 ∨ k = 2 := by omega
    rcases this with rfl | rfl | rfl
    · show w (n - 3 + 0) = 101
      rw [show n - 3 + 0 = n - 3 by omega]; exact a0
    · show w (n - 3 + 1) = 101
      rw [show n - 3 + 1 = n - 2 by omega]; exact a1
    · show w (n - 3 + 2) = 100
      rw [show n - 3 + 2 = n - 1 by omega]; exact a2
theorem ew_12 {w : Int → Int} {n : Int} : ew w 12 n ↔ e2 w n 101 100 := by
  constructor
  · rintro ⟨h, q⟩
    have a0 : w (n - 2 + 0) = 101 := q 0 (by decide) (by decide)
    have a1 : w (n - 2 + 1) = 100 := q 1 (by decide) (by decide)
    exact ⟨h, (by rw [show n - 2 = n - 2 + 0 by omega]; exact a0), (by rw [show n - 1 = n - 2 + 1 by omega]; exact a1)⟩
  · rintro ⟨h, a0, a1⟩
    refine ⟨h, fun k k0 k1 => ?_⟩
    have k2 : k < 2 := k1
    have : k = 0 ∨ k = 1 := by omega
    rcases this with rfl | rfl
    · show w (n - 2 + 0) = 101
      rw [show n - 2 + 0 = n - 2 by omega]; exact a0
    · show w (n - 2 + 1) = 100
      rw [show n - 2 + 1 = n - 1 by omega]; exact a1
theorem ew_13 {w : Int → Int} {n : Int} : ew w 13 n ↔ e3 w n 105 110 103 := by
  constructor
  · rintro ⟨h, q⟩
    have a0 : w (n - 3 + 0) = 105 := q 0 (by decide) (by decide)
    have a1 : w (n - 3 + 1) = 110 := q 1 (by decide) (by decide)
    have a2 : w (n - 3 + 2) = 103 := q 2 (by decide) (by decide)
    exact ⟨h, (by rw [show n - 3 = n - 3 + 0 by omega]; exact a0), (by rw [show n - 2 = n - 3 + 1 by omega]; exact a1), (by rw [show n - 1 = n - 3 + 2 by omega]; exact a2)⟩
  · rintro ⟨h, a0, a1, a2⟩
    refine ⟨h, fun k k0 k1 => ?_⟩
    have k2 : k < 3 := k1
    have : k = 0 ∨ k = 1 ∨ k = 2 := by omega
    rcases this with rfl | rfl | rfl
    · show w (n - 3 + 0) = 105
      rw [show n - 3 + 0 = n - 3 by omega]; exact a0
    · show w (n - 3 + 1) = 110
      rw [show n - 3 + 1 = n - 2 by omega]; exact a1
    · show w (n - 3 + 2) = 103
      rw [show n - 3 + 2 = n - 1 by omega]; exact a2
theorem ew_14 {w : Int → Int} {n : Int} : ew w 14 n ↔ e2 w n 97 116 := by
  constructor
  · rintro ⟨h, q⟩
    have a0 : w (n - 2 + 0) = 97 := q 0 (by decide) (by decide)
    have a1 : w (n - 2 + 1) = 116 := q 1 (by decide) (by decide)
    exact ⟨h, (by rw [show n - 2 = n - 2 + 0 by omega]; exact a0), (by rw [show n - 1 = n - 2 + 1 by omega]; exact a1)⟩
  · rintro ⟨h, a0, a1⟩
    refine ⟨h, fun k k0 k1 => ?_⟩
    have k2 : k < 2 := k1
    have : k = 0 ∨ k = 1 := by omega
    rcases this with rfl | rfl
    · show w (n - 2 + 0) = 97
      rw [show n - 2 + 0 = n - 2 by omega]; exact a0
    · show w (n - 2 + 1) = 116
      rw [show n - 2 + 1 = n - 1 by omega]; exact a1
theorem ew_15 {w : Int → Int} {n : Int} : ew w 15 n ↔ e2 w n 98 108 := by
  constructor
  · rintro ⟨h, q⟩
    have a0 : w (n - 2 + 0) = 98 := q 0 (by decide) (by decide)
    have a1 : w (n - 2 + 1) = 108 := q 1 (by decide) (by decide)
    exact ⟨h, (by rw [show n - 2 = n - 2 + 0 by omega]; exact a0), (by rw [show n - 1 = n - 2 + 1 by omega]; exact a1)⟩
  · rintro ⟨h, a0, a1⟩
    refine ⟨h, fun k k0 k1 => ?_⟩
    have k2 : k < 2 := k1
    have : k = 0 ∨ k = 1 := by omega
    rcases this with rfl | rfl
    · show w (n - 2 + 0) = 98
      rw [show n - 2 + 0 = n - 2 by omega]; exact a0
    · show w (n - 2 + 1) = 108
      rw [show n - 2 + 1 = n - 1 by omega]; exact a1
theorem ew_16 {w : Int → Int} {n : Int} : ew w 16 n ↔ e2 w n 105 122 := by
  constructor
  · rintro ⟨h, q⟩
    have a0 : w (n - 2 + 0) = 105 := q 0 (by decide) (by decide)
    have a1 : w (n - 2 + 1) = 122 := q 1 (by decide) (by decide)
    exact ⟨h, (by rw [show n - 2 = n - 2 + 0 by omega]; exact a0), (by rw [show n - 1 = n - 2 + 1 by omega]; exact a1)⟩
  · rintro ⟨h, a0, a1⟩
    refine ⟨h, fun k k0 k1 => ?_⟩
    have k2 : k < 2 := k1
    have : k = 0 ∨ k = 1 := by omega
    rcases this with rfl | rfl
    · show w (n - 2 + 0) = 105
      rw [show n - 2 + 0 = n - 2 by omega]; exact a0
    · show w (n - 2 + 1) = 122
      rw [show n - 2 + 1 = n - 1 by omega]; exact a1
theorem ew_19 {w : Int → Int} {n : Int} : ew w 19 n ↔ e3 w n 105 101 115 := by
  constructor
  · rintro ⟨h, q⟩
    have a0 : w (n - 3 + 0) = 105 := q 0 (by decide) (by decide)
    have a1 : w (n - 3 + 1) = 101 := q 1 (by decide) (by decide)
    have a2 : w (n - 3 + 2) = 115 := q 2 (by decide) (by decide)
    exact ⟨h, (by rw [show n - 3 = n - 3 + 0 by omega]; exact a0), (by rw [show n - 2 = n - 3 + 1 by omega]; exact a1), (by rw [show n - 1 = n - 3 + 2 by omega]; exact a2)⟩
  · rintro ⟨h, a0, a1, a2⟩
    refine ⟨h, fun k k0 k1 => ?_⟩
    have k2 : k < 3 := k1
    have : k = 0 ∨ k = 1 ∨ k = 2 := by omega
    rcases this with rfl | rfl | rfl
    · show w (n - 3 + 0) = 105
      rw [show n - 3 + 0 = n - 3 by omega]; exact a0
    · show w (n - 3 + 1) = 101
      rw [show n - 3 + 1 = n - 2 by omega]; exact a1
    · show w (n - 3 + 2) = 115
      rw [show n - 3 + 2 = n - 1 by omega]; exact a2
theorem ew_20 {w : Int → Int} {n : Int} : ew w 20 n ↔ e4 w n 97 105 101 115 := by
  constructor
  · rintro ⟨h, q⟩
    have a0 : w (n - 4 + 0) = 97 := q 0 (by decide) (by decide)
    have a1 : w (n - 4 + 1) = 105 := q 1 (by decide) (by decide)
    have a2 : w (n - 4 + 2) = 101 := q 2 (by decide) (by decide)
    have a3 : w (n - 4 + 3) = 115 := q 3 (by decide) (by decide)
    exact ⟨h, (by rw [show n - 4 = n - 4 + 0 by omega]; exact a0), (by rw [show n - 3 = n - 4 + 1 by omega]; exact a1), (by rw [show n - 2 = n - 4 + 2 by omega]; exact a2), (by rw [show n - 1 = n - 4 + 3 by omega]; exact a3)⟩
  · rintro ⟨h, a0, a1, a2, a3⟩
    refine ⟨h, fun k k0 k1 => ?_⟩
    have k2 : k < 4 := k1
    have : k = 0 ∨ k = 1 ∨ k = 2 ∨ k = 3 := by omega
    rcases this with rfl | rfl | rfl | rfl
    · show w (n - 4 + 0) = 97
      rw [show n - 4 + 0 = n - 4 by omega]; exact a0
    · show w (n - 4 + 1) = 105
      rw [show n - 4 + 1 = n - 3 by omega]; exact a1
    · show w (n - 4 + 2) = 101
      rw [show n - 4 + 2 = n - 2 by omega]; exact a2
    · show w (n - 4 + 3) = 115
      rw [show n - 4 + 3 = n - 1 by omega]; exact a3
theorem ew_21 {w : Int → Int} {n : Int} : ew w 21 n ↔ e4 w n 101 105 101 115 := by
  constructor
  · rintro ⟨h, q⟩
    have a0 : w (n - 4 + 0) = 101 := q 0 (by decide) (by decide)
    have a1 : w (n - 4 + 1) = 105 := q 1 (by decide) (by decide)
    have a2 : w (n - 4 + 2) = 101 := q 2 (by decide) (by decide)
    have a3 : w (n - 4 + 3) = 115 := q 3 (by decide) (by decide)
    exact ⟨h, (by rw [show n - 4 = n - 4 + 0 by omega]; exact a0), (by rw [show n - 3 = n - 4 + 1 by omega]; exact a1), (by rw [show n - 2 = n - 4 + 2 by omega]; exact a2), (by rw [show n - 1 = n - 4 + 3 by omega]; exact a3)⟩
  · rintro ⟨h, a0, a1, a2, a3⟩
    refine ⟨h, fun k k0 k1 => ?_⟩
    have k2 : k < 4 := k1
    have : k = 0 ∨ k = 1 ∨ k = 2 ∨ k = 3 := by omega
    rcases this with rfl | rfl | rfl | rfl
    · show w (n - 4 + 0) = 101
      rw [show n - 4 + 0 = n - 4 by omega]; exact a0
    · show w (n - 4 + 1) = 105
      rw [show n - 4 + 1 = n - 3 by omega]; exact a1
    · show w (n - 4 + 2) = 101
      rw [show n - 4 + 2 = n - 2 by omega]; exact a2
    · show w (n - 4 + 3) = 115
      rw [show n - 4 + 3 = n - 1 by omega]; exact a3
theorem ew_22 {w : Int → Int} {n : Int} : ew w 22 n ↔ e1 w n 121 := by
  constructor
  · rintro ⟨h, q⟩
    have a0 : w (n - 1 + 0) = 121 := q 0 (by decide) (by decide)
    exact ⟨h, (by rw [show n - 1 = n - 1 + 0 by omega]; exact a0)⟩
  · rintro ⟨h, a0⟩
    refine ⟨h, fun k k0 k1 => ?_⟩
    have k2 : k < 1 := k1
    have : k = 0 := by omega
    rcases this with rfl
    · show w (n - 1 + 0) = 121
      rw [show n - 1 + 0 = n - 1 by omega]; exact a0
theorem ew_23 {w : Int → Int} {n : Int} : ew w 23 n ↔ e2 w n 101 115 := by
  constructor
  · rintro ⟨h, q⟩
    have a0 : w (n - 2 + 0) = 101 := q 0 (by decide) (by decide)
    have a1 : w (n - 2 + 1) = 115 := q 1 (by decide) (by decide)
    exact ⟨h, (by rw [show n - 2 = n - 2 + 0 by omega]; exact a0), (by rw [show n - 1 = n - 2 + 1 by omega]; exact a1)⟩
  · rintro ⟨h, a0, a1⟩
    refine ⟨h, fun k k0 k1 => ?_⟩
    have k2 : k < 2 := k1
    have : k = 0 ∨ k = 1 := by omega
    rcases this with rfl | rfl
    · show w (n - 2 + 0) = 101
      rw [show n - 2 + 0 = n - 2 by omega]; exact a0
    · show w (n - 2 + 1) = 115
      rw [show n - 2 + 1 = n - 1 by omega]; exact a1
theorem ew_24 {w : Int → Int} {n : Int} : ew w 24 n ↔ e3 w n 97 101 115 := by
  constructor
  · rintro ⟨h, q⟩
    have a0 : w (n - 3 + 0) = 97 := q 0 (by decide) (by decide)
    have a1 : w (n - 3 + 1) = 101 := q 1 (by decide) (by decide)
    have a2 : w (n - 3 + 2) = 115 := q 2 (by decide) (by decide)
    exact ⟨h, (by rw [show n - 3 = n - 3 + 0 by omega]; exact a0), (by rw [show n - 2 = n - 3 + 1 by omega]; exact a1), (by rw [show n - 1 = n - 3 + 2 by omega]; exact a2)⟩
  · rintro ⟨h, a0, a1, a2⟩
    refine ⟨h, fun k k0 k1 => ?_⟩
    have k2 : k < 3 := k1
    have : k = 0 ∨ k = 1 ∨ k = 2 := by omega
    rcases this with rfl | rfl | rfl
    · show w (n - 3 + 0) = 97
      rw [show n - 3 + 0 = n - 3 by omega]; exact a0
    · show w (n - 3 + 1) = 101
      rw [show n - 3 + 1 = n - 2 by omega]; exact a1
    · show w (n - 3 + 2) = 115
      rw [show n - 3 + 2 = n - 1 by omega]; exact a2
theorem ew_25 {w : Int → Int} {n : Int} : ew w 25 n ↔ e3 w n 101 101 115 := by
  constructor
  · rintro ⟨h, q⟩
    have a0 : w (n - 3 + 0) = 101 := q 0 (by decide) (by decide)
    have a1 : w (n - 3 + 1) = 101 := q 1 (by decide) (by decide)
    have a2 : w (n - 3 + 2) = 115 := q 2 (by decide) (by decide)
    exact ⟨h, (by rw [show n - 3 = n - 3 + 0 by omega]; exact a0), (by rw [show n - 2 = n - 3 + 1 by omega]; exact a1), (by rw [show n - 1 = n - 3 + 2 by omega]; exact a2)⟩
  · rintro ⟨h, a0, a1, a2⟩
    refine ⟨h, fun k k0 k1 => ?_⟩
    have k2 : k < 3 := k1
    have : k = 0 ∨ k = 1 ∨ k = 2 := by omega
    rcases this with rfl | rfl | rfl
    · show w (n - 3 + 0) = 101
      rw [show n - 3 + 0 = n - 3 by omega]; exact a0
    · show w (n - 3 + 1) = 101
      rw [show n - 3 + 1 = n - 2 by omega]; exact a1
    · show w (n - 3 + 2) = 115
      rw [show n - 3 + 2 = n - 1 by omega]; exact a2
theorem ew_26 {w : Int → Int} {n : Int} : ew w 26 n ↔ e3 w n 111 101 115 := by
  constructor
  · rintro ⟨h, q⟩
    have a0 : w (n - 3 + 0) = 111 := q 0 (by decide) (by decide)
    have a1 : w (n - 3 + 1) = 101 := q 1 (by decide) (by decide)
    have a2 : w (n - 3 + 2) = 115 := q 2 (by decide) (by decide)
    exact ⟨h, (by rw [show n - 3 = n - 3 + 0 by omega]; exact a0), (by rw [show n - 2 = n - 3 + 1 by omega]; exact a1), (by rw [show n - 1 = n - 3 + 2 by omega]; exact a2)⟩
  · rintro ⟨h, a0, a1, a2⟩
    refine ⟨h, fun k k0 k1 => ?_⟩
    have k2 : k < 3 := k1
    have : k = 0 ∨ k = 1 ∨ k = 2 := by omega
    rcases this with rfl | rfl | rfl
    · show w (n - 3 + 0) = 111
      rw [show n - 3 + 0 = n - 3 by omega]; exact a0
    · show w (n - 3 + 1) = 101
      rw [show n - 3 + 1 = n - 2 by omega]; exact a1
    · show w (n - 3 + 2) = 115
      rw [show n - 3 + 2 = n - 1 by omega]; exact a2
theorem ew_27 {w : Int → Int} {n : Int} : ew w 27 n ↔ e1 w n 101 := by
  constructor
  · rintro ⟨h, q⟩
    have a0 : w (n - 1 + 0) = 101 := q 0 (by decide) (by decide)
    exact ⟨h, (by rw [show n - 1 = n - 1 + 0 by omega]; exact a0)⟩
  · rintro ⟨h, a0⟩
    refine ⟨h, fun k k0 k1 => ?_⟩
    have k2 : k < 1 := k1
    have : k = 0 := by omega
    rcases this with rfl
    · show w (n - 1 + 0) = 101
      rw [show n - 1 + 0 = n - 1 by omega]; exact a0
theorem ew_28 {w : Int → Int} {n : Int} : ew w 28 n ↔ e1 w n 115 := by
  constructor
  · rintro ⟨h, q⟩
    have a0 : w (n - 1 + 0) = 115 := q 0 (by decide) (by decide)
    exact ⟨h, (by rw [show n - 1 = n - 1 + 0 by omega]; exact a0)⟩
  · rintro ⟨h, a0⟩
    refine ⟨h, fun k k0 k1 => ?_⟩
    have k2 : k < 1 := k1
    have : k = 0 := by omega
    rcases this with rfl
    · show w (n - 1 + 0) = 115
      rw [show n - 1 + 0 = n - 1 by omega]; exact a0
theorem ew_29 {w : Int → Int} {n : Int} : ew w 29 n ↔ e2 w n 117 115 := by
  constructor
  · rintro ⟨h, q⟩
    have a0 : w (n - 2 + 0) = 117 := q 0 (by decide) (by decide)
    have a1 : w (n - 2 + 1) = 115 := q 1 (by decide) (by decide)
    exact ⟨h, (by rw [show n - 2 = n - 2 + 0 by omega]; exact a0), (by rw [show n - 1 = n - 2 + 1 by omega]; exact a1)⟩
  · rintro ⟨h, a0, a1⟩
    refine ⟨h, fun k k0 k1 => ?_⟩
    have k2 : k < 2 := k1
    have : k = 0 ∨ k = 1 := by omega
    rcases this with rfl | rfl
    · show w (n - 2 + 0) = 117
      rw [show n - 2 + 0 = n - 2 by omega]; exact a0
    · show w (n - 2 + 1) = 115
      rw [show n - 2 + 1 = n - 1 by omega]; exact a1
theorem ew_30 {w : Int → Int} {n : Int} : ew w 30 n ↔ e2 w n 115 115 := by
  constructor
  · rintro ⟨h, q⟩
    have a0 : w (n - 2 + 0) = 115 := q 0 (by decide) (by decide)
    have a1 : w (n - 2 + 1) = 115 := q 1 (by decide) (by decide)
    exact ⟨h, (by rw [show n - 2 = n - 2 + 0 by omega]; exact a0), (by rw [show n - 1 = n - 2 + 1 by omega]; exact a1)⟩
  · rintro ⟨h, a0, a1⟩
    refine ⟨h, fun k k0 k1 => ?_⟩
    have k2 : k < 2 := k1
    have : k = 0 ∨ k = 1 := by omega
    rcases this with rfl | rfl
    · show w (n - 2 + 0) = 115
      rw [show n - 2 + 0 = n - 2 by omega]; exact a0
    · show w (n - 2 + 1) = 115
      rw [show n - 2 + 1 = n - 1 by omega]; exact a1
theorem ew_32 {w : Int → Int} {n : Int} : ew w 32 n ↔ e4 w n 115 115 101 115 := by
  constructor
  · rintro ⟨h, q⟩
    have a0 : w (n - 4 + 0) = 115 := q 0 (by decide) (by decide)
    have a1 : w (n - 4 + 1) = 115 := q 1 (by decide) (by decide)
    have a2 : w (n - 4 + 2) = 101 := q 2 (by decide) (by decide)
    have a3 : w (n - 4 + 3) = 115 := q 3 (by decide) (by decide)
    exact ⟨h, (by rw [show n - 4 = n - 4 + 0 by omega]; exact a0), (by rw [show n - 3 = n - 4 + 1 by omega]; exact a1), (by rw [show n - 2 = n - 4 + 2 by omega]; exact a2), (by rw [show n - 1 = n - 4 + 3 by omega]; exact a3)⟩
  · rintro ⟨h, a0, a1, a2, a3⟩
    refine ⟨h, fun k k0 k1 => ?_⟩
    have k2 : k < 4 := k1
    have : k = 0 ∨ k = 1 ∨ k = 2 ∨ k = 3 := by omega
    rcases this with rfl | rfl | rfl | rfl
    · show w (n - 4 + 0) = 115
      rw [show n - 4 + 0 = n - 4 by omega]; exact a0
    · show w (n - 4 + 1) = 115
      rw [show n - 4 + 1 = n - 3 by omega]; exact a1
    · show w (n - 4 + 2) = 101
      rw [show n - 4 + 2 = n - 2 by omega]; exact a2
    · show w (n - 4 + 3) = 115
      rw [show n - 4 + 3 = n - 1 by omega]; exact a3
theorem ew_33 {w : Int → Int} {n : Int} : ew w 33 n ↔ e3 w n 101 101 100 := by
  constructor
  · rintro ⟨h, q⟩
    have a0 : w (n - 3 + 0) = 101 := q 0 (by decide) (by decide)
    have a1 : w (n - 3 + 1) = 101 := q 1 (by decide) (by decide)
    have a2 : w (n - 3 + 2) = 100 := q 2 (by decide) (by decide)
    exact ⟨h, (by rw [show n - 3 = n - 3 + 0 by omega]; exact a0), (by rw [show n - 2 = n - 3 + 1 by omega]; exact a1), (by rw [show n - 1 = n - 3 + 2 by omega]; exact a2)⟩
  · rintro ⟨h, a0, a1, a2⟩
    refine ⟨h, fun k k0 k1 => ?_⟩
    have k2 : k < 3 := k1
    have : k = 0 ∨ k = 1 ∨ k = 2 := by omega
    rcases this with rfl | rfl | rfl
    · show w (n - 3 + 0) = 101
      rw [show n - 3 + 0 = n - 3 by omega]; exact a0
    · show w (n - 3 + 1) = 101
      rw [show n - 3 + 1 = n - 2 by omega]; exact a1
    · show w (n - 3 + 2) = 100
      rw [show n - 3 + 2 = n - 1 by omega]; exact a2
theorem ew_34 {w : Int → Int} {n : Int} : ew w 34 n ↔ e2 w n 101 100 := by
  constructor
  · rintro ⟨h, q⟩
    have a0 : w (n - 2 + 0) = 101 := q 0 (by decide) (by decide)
    have a1 : w (n - 2 + 1) = 100 := q 1 (by decide) (by decide)
    exact ⟨h, (by rw [show n - 2 = n - 2 + 0 by omega]; exact a0), (by rw [show n - 1 = n - 2 + 1 by omega]; exact a1)⟩
  · rintro ⟨h, a0, a1⟩
    refine ⟨h, fun k k0 k1 => ?_⟩
    have k2 : k < 2 := k1
    have : k = 0 ∨ k = 1 := by omega
    rcases this with rfl | rfl
    · show w (n - 2 + 0) = 101
      rw [show n - 2 + 0 = n - 2 by omega]; exact a0
    · show w (n - 2 + 1) = 100
      rw [show n - 2 + 1 = n - 1 by omega]; exact a1
theorem ew_35 {w : Int → Int} {n : Int} : ew w 35 n ↔ e3 w n 105 110 103 := by
  constructor
  · rintro ⟨h, q⟩
    have a0 : w (n - 3 + 0) = 105 := q 0 (by decide) (by decide)
    have a1 : w (n - 3 + 1) = 110 := q 1 (by decide) (by decide)
    have a2 : w (n - 3 + 2) = 103 := q 2 (by decide) (by decide)
    exact ⟨h, (by rw [show n - 3 = n - 3 + 0 by omega]; exact a0), (by rw [show n - 2 = n - 3 + 1 by omega]; exact a1), (by rw [show n - 1 = n - 3 + 2 by omega]; exact a2)⟩
  · rintro ⟨h, a0, a1, a2⟩
    refine ⟨h, fun k k0 k1 => ?_⟩
    have k2 : k < 3 := k1
    have : k = 0 ∨ k = 1 ∨ k = 2 := by omega
    rcases this with rfl | rfl | rfl
    · show w (n - 3 + 0) = 105
      rw [show n - 3 + 0 = n - 3 by omega]; exact a0
    · show w (n - 3 + 1) = 110
      rw [show n - 3 + 1 = n - 2 by omega]; exact a1
    · show w (n - 3 + 2) = 103
      rw [show n - 3 + 2 = n - 1 by omega]; exact a2
theorem ew_36 {w : Int → Int} {n : Int} : ew w 36 n ↔ e2 w n 97 116 := by
  constructor
  · rintro ⟨h, q⟩
    have a0 : w (n - 2 + 0) = 97 := q 0 (by decide) (by decide)
    have a1 : w (n - 2 + 1) = 116 := q 1 (by decide) (by decide)
    exact ⟨h, (by rw [show n - 2 = n - 2 + 0 by omega]; exact a0), (by rw [show n - 1 = n - 2 + 1 by omega]; exact a1)⟩
  · rintro ⟨h, a0, a1⟩
    refine ⟨h, fun k k0 k1 => ?_⟩
    have k2 : k < 2 := k1
    have : k = 0 ∨ k = 1 := by omega
    rcases this with rfl | rfl
    · show w (n - 2 + 0) = 97
      rw [show n - 2 + 0 = n - 2 by omega]; exact a0
    · show w (n - 2 + 1) = 116
      rw [show n - 2 + 1 = n - 1 by omega]; exact a1
theorem ew_37 {w : Int → Int} {n : Int} : ew w 37 n ↔ e2 w n 98 108 := by
  constructor
  · rintro ⟨h, q⟩
    have a0 : w (n - 2 + 0) = 98 := q 0 (by decide) (by decide)
    have a1 : w (n - 2 + 1) = 108 := q 1 (by decide) (by decide)
    exact ⟨h, (by rw [show n - 2 = n - 2 + 0 by omega]; exact a0), (by rw [show n - 1 = n - 2 + 1 by omega]; exact a1)⟩
  · rintro ⟨h, a0, a1⟩
    refine ⟨h, fun k k0 k1 => ?_⟩
    have k2 : k < 2 := k1
    have : k = 0 ∨ k = 1 := by omega
    rcases this with rfl | rfl
    · show w (n - 2 + 0) = 98
      rw [show n - 2 + 0 = n - 2 by omega]; exact a0
    · show w (n - 2 + 1) = 108
      rw [show n - 2 + 1 = n - 1 by omega]; exact a1
theorem ew_38 {w : Int → Int} {n : Int} : ew w 38 n ↔ e2 w n 105 122 := by
  constructor
  · rintro ⟨h, q⟩
    have a0 : w (n - 2 + 0) = 105 := q 0 (by decide) (by decide)
    have a1 : w (n - 2 + 1) = 122 := q 1 (by decide) (by decide)
    exact ⟨h, (by rw [show n - 2 = n - 2 + 0 by omega]; exact a0), (by rw [show n - 1 = n - 2 + 1 by omega]; exact a1)⟩
  · rintro ⟨h, a0, a1⟩
    refine ⟨h, fun k k0 k1 => ?_⟩
    have k2 : k < 2 := k1
    have : k = 0 ∨ k = 1 := by omega
    rcases this with rfl | rfl
    · show w (n - 2 + 0) = 105
      rw [show n - 2 + 0 = n - 2 by omega]; exact a0
    · show w (n - 2 + 1) = 122
      rw [show n - 2 + 1 = n - 1 by omega]; exact a1
theorem ew_39 {w : Int → Int} {n : Int} : ew w 39 n ↔ e1 w n 105 := by
  constructor
  · rintro ⟨h, q⟩
    have a0 : w (n - 1 + 0) = 105 := q 0 (by decide) (by decide)
    exact ⟨h, (by rw [show n - 1 = n - 1 + 0 by omega]; exact a0)⟩
  · rintro ⟨h, a0⟩
    refine ⟨h, fun k k0 k1 => ?_⟩
    have k2 : k < 1 := k1
    have : k = 0 := by omega
    rcases this with rfl
    · show w (n - 1 + 0) = 105
      rw [show n - 1 + 0 = n - 1 by omega]; exact a0
/-- String i comes at b -/
def chW (w : Int → Int) (b : Int) (i : Nat) (m : Int) : Int → Int := fun k => if b ≤ k ∧ k < b + m then sc i (k - b) else w k
theorem chW_0 {w : Int → Int} {b m : Int} {i : Nat} (h : m ≤ 0) : chW w b i m = w := by
  funext k
  unfold chW
  rw [if_neg (by omega)]
theorem chW_1 {w : Int → Int} {b a m : Int} {i : Nat} (h : m = 1) (ha : sc i 0 = a) : chW w b i m = up1 w b a := by
  funext k
  unfold chW up1
  by_cases q : k = b
  · rw [if_pos (by omega), if_pos q, q, show b - b = 0 by omega]; exact ha
  · rw [if_neg (by omega), if_neg q]
def wsSM (c : Nat) (i : Int) : Prop := c = 565 ∨ c = 566 ∨ (c = 555 ∧ i = 12)
abbrev KS (σ τ : Sto) : Prop := Ch wsSM σ τ
theorem KS_rf {σ : Sto} : KS σ σ := Ch.rf
theorem KS_w {σ τ : Sto} {a : Nat} {i v : Int} (e : τ = σ.wI a i v) (h : wsSM a i) : KS σ τ := by subst e; exact Ch.wI Ch.rf h
theorem KS_rd {σ τ : Sto} {F : Nat → Int → Int} (r : τ.R = σ.R) (s : τ.sh = σ.sh) (n : τ.n = σ.n) (e : τ.I = F) (h : ∀ c i, ¬ wsSM c i → F c i = σ.I c i) : KS σ τ := ⟨⟨r, s, n⟩, fun c i q => by rw [e]; exact h c i q⟩
section ST1
variable {w : Int → Int} {n : Int}
theorem st1_0 (h : n < 4) : st1L w n = n ∧ st1W w n = w := by
  have a : ¬ pIes w n := fun z => by have := z.1; omega
  have b : ¬ pEs w n := fun z => by have := z.1; omega
  have c : ¬ pS w n := fun z => by have := z.1; omega
  unfold st1L st1W
  rw [zb_f a, zb_f b, zb_f c]
  exact ⟨rfl, rfl⟩
theorem st1_a (h : pIes w n) : st1L w n = n - 2 ∧ st1W w n = up1 w (n - 3) 121 := by
  unfold st1L st1W
  rw [zb_t h]
  exact ⟨rfl, rfl⟩
theorem st1_b (a : ¬ pIes w n) (h : pEs w n) : st1L w n = n - 1 ∧ st1W w n = w := by
  unfold st1L st1W
  rw [zb_f a, zb_t h]
  exact ⟨rfl, rfl⟩
theorem st1_c (a : ¬ pIes w n) (b : ¬ pEs w n) (h : pS w n) : st1L w n = n - 1 ∧ st1W w n = w := by
  unfold st1L st1W
  rw [zb_f a, zb_f b, zb_t h]
  exact ⟨rfl, rfl⟩
theorem st1_d (a : ¬ pIes w n) (b : ¬ pEs w n) (c : ¬ pS w n) : st1L w n = n ∧ st1W w n = w := by
  unfold st1L st1W
  rw [zb_f a, zb_f b, zb_f c]
  exact ⟨rfl, rfl⟩
theorem up1_id {w : Int → Int} {b a : Int} (h : w b = a) : up1 w b a = w := by
  funext k
  unfold up1
  split
  · rename_i q; rw [q, h]
  · rfl
end ST1

theorem sp_X9_endsWith {E : XE} {d : Nat} {σ : Sto} {o1 : Nat} (hd : 5 ≤ d) (hL : Lay σ) (ho1 : o1 < strB.length) (p0 : 0 ≤ (σ.I 555 12) ∧ (σ.I 555 12) ≤ 30000) : CC E mX9_endsWith d [aO 555, aS o1] σ (RZ σ (ew (σ.I 565) o1 (σ.I 555 12))) := by sorry
theorem sp_X9_change {E : XE} {d : Nat} {σ : Sto} {x1 : Int} {o2 : Nat} (hd : 5 ≤ d) (hL : Lay σ) (ho2 : o2 < strB.length) (p0 : 0 ≤ (σ.I 555 12) ∧ (σ.I 555 12) ≤ 30000) (p1 : 0 ≤ x1 ∧ x1 ≤ (σ.I 555 12)) (p2 : sl o2 ≤ 10) : CC E mX9_change d [aO 555, aI (x1), aS o2] σ (RV (fun τ => (τ.I 555 12 = ((σ.I 555 12) - x1) + sl o2) ∧ (τ.I 565 = chW (σ.I 565) ((σ.I 555 12) - x1) o2 (sl o2)) ∧ (KS σ τ))) := by sorry
theorem sp_X9_endsWithPart {E : XE} {d : Nat} {σ : Sto} {x1 : Int} {x2 : Int} (hd : 5 ≤ d) (hL : Lay σ)  (p0 : 0 ≤ (σ.I 555 12) ∧ (σ.I 555 12) ≤ 30000) (p1 : 0 ≤ x1 ∧ x1 ≤ x2 ∧ x2 ≤ 220) : CC E mX9_endsWithPart d [aO 555, aI (x1), aI (x2)] σ (RZ σ (x2 - x1 ≤ (σ.I 555 12) ∧ eqA (σ.I 565) (sc 40) ((σ.I 555 12) - (x2 - x1)) x1 (x2 - x1))) := by sorry
theorem sp_X9_stemShort {E : XE} {d : Nat} {σ : Sto}  (hd : 6 ≤ d) (hL : Lay σ)  (p0 : 0 ≤ (σ.I 555 12) ∧ (σ.I 555 12) ≤ 30000) : CC E mX9_stemShort d [aO 555] σ (RV (fun τ => (τ.I 565 = st1W (σ.I 565) (σ.I 555 12)) ∧ (τ.I 555 12 = st1L (σ.I 565) (σ.I 555 12)) ∧ (KS σ τ))) := by sorry
end
section
/-! contracts: printed by tools/mk.py out of s44bb_stemN.py -/
set_option maxRecDepth 100000
set_option maxHeartbeats 1500000
section S2B
variable {w : Int → Int} {n : Int}
theorem s2b_1 (h : e3 w n 101 101 100) (hm : 0 < mea w (n - 3)) : s2bL w n = n - 1 ∧ s2bW w n = w := by
  refine ⟨?_, ?_⟩
  · unfold s2bL
    rw [zb_t h, zb_t hm]; rfl
  · unfold s2bW
    rw [zb_f (fun z => z.1 h)]; rfl
theorem s2b_2 (h : e3 w n 101 101 100) (hm : ¬ 0 < mea w (n - 3)) : s2bL w n = n ∧ s2bW w n = w := by
  refine ⟨?_, ?_⟩
  · unfold s2bL
    rw [zb_t h, zb_f hm]; rfl
  · unfold s2bW
    rw [zb_f (fun z => z.1 h)]; rfl
theorem s2b_3 (h : ¬ e3 w n 101 101 100) (hm : pEd w n = n ∨ ¬ exN (vw w) (pEd w n)) : s2bL w n = n ∧ s2bW w n = w := by
  refine ⟨?_, ?_⟩
  · unfold s2bL
    rw [zb_f h, zb_t hm]; rfl
  · unfold s2bW
    rw [zb_f (fun z => z.2.1 hm)]; rfl
theorem s2b_5 (h : ¬ e3 w n 101 101 100) (hm : ¬ (pEd w n = n ∨ ¬ exN (vw w) (pEd w n))) (ha : addE w (pEd w n)) : s2bL w n = pEd w n + 1 ∧ s2bW w n = up1 w (pEd w n) 101 := by
  refine ⟨?_, ?_⟩
  · unfold s2bL
    rw [zb_f h, zb_f hm, zb_t ha]; rfl
  · unfold s2bW
    rw [zb_t ⟨h, hm, Or.inl ha⟩]; rfl
theorem s2b_6 (h : ¬ e3 w n 101 101 100) (hm : ¬ (pEd w n = n ∨ ¬ exN (vw w) (pEd w n))) (ha : ¬ addE w (pEd w n)) (hd : dblC w (pEd w n)) (hl : ¬ (w (pEd w n - 1) = 108 ∨ w (pEd w n - 1) = 115 ∨ w (pEd w n - 1) = 122)) : s2bL w n = pEd w n - 1 ∧ s2bW w n = w := by
  refine ⟨?_, ?_⟩
  · unfold s2bL
    rw [zb_f h, zb_f hm, zb_f ha, zb_t hd, zb_f hl]; rfl
  · unfold s2bW
    rw [zb_f (fun z => z.2.2.elim ha (fun y => y.1 hd))]; rfl
theorem s2b_7 (h : ¬ e3 w n 101 101 100) (hm : ¬ (pEd w n = n ∨ ¬ exN (vw w) (pEd w n))) (ha : ¬ addE w (pEd w n)) (hd : dblC w (pEd w n)) (hl : w (pEd w n - 1) = 108 ∨ w (pEd w n - 1) = 115 ∨ w (pEd w n - 1) = 122) : s2bL w n = pEd w n ∧ s2bW w n = w := by
  refine ⟨?_, ?_⟩
  · unfold s2bL
    rw [zb_f h, zb_f hm, zb_f ha, zb_t hd, zb_t hl]; rfl
  · unfold s2bW
    rw [zb_f (fun z => z.2.2.elim ha (fun y => y.1 hd))]; rfl
theorem s2b_8 (h : ¬ e3 w n 101 101 100) (hm : ¬ (pEd w n = n ∨ ¬ exN (vw w) (pEd w n))) (ha : ¬ addE w (pEd w n)) (hd : ¬ dblC w (pEd w n)) (hs : shpC w (pEd w n)) : s2bL w n = pEd w n + 1 ∧ s2bW w n = up1 w (pEd w n) 101 := by
  refine ⟨?_, ?_⟩
  · unfold s2bL
    rw [zb_f h, zb_f hm, zb_f ha, zb_f hd, zb_t hs]; rfl
  · unfold s2bW
    rw [zb_t ⟨h, hm, Or.inr ⟨hd, hs⟩⟩]; rfl
theorem s2b_9 (h : ¬ e3 w n 101 101 100) (hm : ¬ (pEd w n = n ∨ ¬ exN (vw w) (pEd w n))) (ha : ¬ addE w (pEd w n)) (hd : ¬ dblC w (pEd w n)) (hs : ¬ shpC w (pEd w n)) : s2bL w n = pEd w n ∧ s2bW w n = w := by
  refine ⟨?_, ?_⟩
  · unfold s2bL
    rw [zb_f h, zb_f hm, zb_f ha, zb_f hd, zb_f hs]; rfl
  · unfold s2bW
    rw [zb_f (fun z => z.2.2.elim ha (fun y => hs y.2))]; rfl
/-- of two like consonants none is of the short shape -/
theorem dbl_lsz {m : Int} (hd : dblC w m) (hl : w (m - 1) = 108 ∨ w (m - 1) = 115 ∨ w (m - 1) = 122) : ¬ vw w (m - 2) := by
  obtain ⟨h1, h2, h3⟩ := hd
  have := h2
  exact vw_n w (m - 2) (by omega) (by unfold plV; omega) (by omega)
theorem pEd_2 (h : e2 w n 101 100) : pEd w n = n - 2 := by unfold pEd; rw [zb_t h]; rfl
theorem pEd_3 (h : ¬ e2 w n 101 100) (h2 : e3 w n 105 110 103) : pEd w n = n - 3 := by unfold pEd; rw [zb_f h, zb_t h2]; rfl
theorem pEd_0 (h : ¬ e2 w n 101 100) (h2 : ¬ e3 w n 105 110 103) : pEd w n = n := by unfold pEd; rw [zb_f h, zb_f h2]; rfl
theorem exN_pos {p : Int → Prop} {n : Int} (h : exN p n) : 0 < n := by obtain ⟨j, h0, h1, _⟩ := h; omega
theorem sfF_t {a : Int} (h : a < sfN) (hq : sfQ w n a (sfB a)) : sfF w n a = a := rs_e (by show (if sfN ≤ a then _ else if zb (sfQ w n a (sfB a)) = 1 then _ else _) = _; rw [if_neg (by omega), if_pos (zb_t hq)])
theorem sfF_f {a : Int} (h : a < sfN) (hq : ¬ sfQ w n a (sfB a)) : sfF w n a = sfF w n (sfE a + 1) := rs_s (by show (if sfN ≤ a then _ else if zb (sfQ w n a (sfB a)) = 1 then _ else _) = _; rw [if_neg (by omega), if_neg (by rw [zb_f hq]; omega)])
theorem sfF_e {a : Int} (h : sfN ≤ a) : sfF w n a = -1 := rs_e (by show (if sfN ≤ a then _ else _) = _; rw [if_pos h])
theorem s2d_n (h : ¬ (0 ≤ sfF w n 0 ∧ 0 < mea w (n - (sfB (sfF w n 0) - sfF w n 0)))) : s2dL w n = n ∧ s2dW w n = w := by
  unfold s2dL s2dW
  rw [zb_f h]
  exact ⟨rfl, rfl⟩
theorem s2d_y {a : Int} (ha : sfF w n 0 = a) (h0 : 0 ≤ a) (h : 0 < mea w (n - (sfB a - a))) : s2dL w n = n - (sfB a - a) + (sfE a - sfB a - 1) ∧ s2dW w n = fun k => if n - (sfB a - a) ≤ k ∧ k < n - (sfB a - a) + (sfE a - sfB a - 1) then sfC (sfB a + 1 + (k - (n - (sfB a - a)))) else w k := by
  unfold s2dL s2dW
  rw [ha, zb_t ⟨h0, h⟩]
  exact ⟨rfl, rfl⟩
end S2B

section S2E
variable {w : Int → Int} {n : Int}
theorem s2b_e (h : ¬ e3 w n 101 101 100) (hm : ¬ (pEd w n = n ∨ ¬ exN (vw w) (pEd w n))) (ha : ¬ addE w (pEd w n)) (hd : ¬ (dblC w (pEd w n) ∧ ¬ (w (pEd w n - 1) = 108 ∨ w (pEd w n - 1) = 115 ∨ w (pEd w n - 1) = 122))) (hs : ¬ shpC w (pEd w n)) : s2bL w n = pEd w n ∧ s2bW w n = w := by
  by_cases q : dblC w (pEd w n)
  · exact s2b_7 h hm ha q (Classical.byContradiction fun z => hd ⟨q, z⟩)
  · exact s2b_9 h hm ha q hs
theorem s2b_s (h : ¬ e3 w n 101 101 100) (hm : ¬ (pEd w n = n ∨ ¬ exN (vw w) (pEd w n))) (ha : ¬ addE w (pEd w n)) (hd : ¬ (dblC w (pEd w n) ∧ ¬ (w (pEd w n - 1) = 108 ∨ w (pEd w n - 1) = 115 ∨ w (pEd w n - 1) = 122))) (hs : shpC w (pEd w n)) : s2bL w n = pEd w n + 1 ∧ s2bW w n = up1 w (pEd w n) 101 := by
  by_cases q : dblC w (pEd w n)
  · exact absurd hs.1.2.2.1 (dbl_lsz q (Classical.byContradiction fun z => hd ⟨q, z⟩))
  · exact s2b_8 h hm ha q hs
end S2E

theorem sp_X9_stemEd {E : XE} {d : Nat} {σ : Sto}  (hd : 7 ≤ d) (hL : Lay σ)  (p0 : 0 ≤ (σ.I 555 12) ∧ (σ.I 555 12) ≤ 30000) : CC E mX9_stemEd d [aO 555] σ (RV (fun τ => (τ.I 565 = s2bW (σ.I 565) (σ.I 555 12)) ∧ (τ.I 555 12 = s2bL (σ.I 565) (σ.I 555 12)) ∧ (KS σ τ))) := by sorry
theorem sp_X9_stemEnds {E : XE} {d : Nat} {σ : Sto}  (hd : 7 ≤ d) (hL : Lay σ)  (p0 : 0 ≤ (σ.I 555 12) ∧ (σ.I 555 12) ≤ 30000) : CC E mX9_stemEnds d [aO 555] σ (RV (fun τ => (τ.I 565 = s2dW (σ.I 565) (σ.I 555 12)) ∧ (τ.I 555 12 = s2dL (σ.I 565) (σ.I 555 12)) ∧ (KS σ τ))) := by sorry
end
section
/-! contracts: printed by tools/mk.py out of s44bc_stemL.py -/
set_option maxRecDepth 100000
set_option maxHeartbeats 1500000
section S2L
variable {w : Int → Int} {n : Int}
theorem s2a_1 (h : e4 w n 115 115 101 115 ∨ e3 w n 105 101 115) : s2a w n = n - 2 := by unfold s2a; rw [zb_t h]; rfl
theorem s2a_2 (h : ¬ (e4 w n 115 115 101 115 ∨ e3 w n 105 101 115)) (h2 : ¬ e2 w n 115 115 ∧ e1 w n 115) : s2a w n = n - 1 := by unfold s2a; rw [zb_f h, zb_t h2]; rfl
theorem s2a_3 (h : ¬ (e4 w n 115 115 101 115 ∨ e3 w n 105 101 115)) (h2 : ¬ (¬ e2 w n 115 115 ∧ e1 w n 115)) : s2a w n = n := by unfold s2a; rw [zb_f h, zb_f h2]; rfl
theorem s2c_t (h : 0 < n ∧ w (n - 1) = 121 ∧ exN (vw w) (n - 1)) : s2cW w n = up1 w (n - 1) 105 := by unfold s2cW; rw [zb_t h]; rfl
theorem s2c_f (h : ¬ (0 < n ∧ w (n - 1) = 121 ∧ exN (vw w) (n - 1))) : s2cW w n = w := by unfold s2cW; rw [zb_f h]; rfl
theorem st2_n (h : ¬ lowW w n) : st2L w n = n ∧ st2W w n = w := ⟨by unfold st2L; rw [zb_f h]; rfl, by unfold st2W; rw [zb_f h]; rfl⟩
theorem st2_y (h : lowW w n) : st2L w n = s2dL (s2A w n).2 (s2A w n).1 ∧ st2W w n = s2dW (s2A w n).2 (s2A w n).1 := ⟨by unfold st2L; rw [zb_t h]; rfl, by unfold st2W; rw [zb_t h]; rfl⟩
end S2L

theorem sp_X9_stemLong {E : XE} {d : Nat} {σ : Sto}  (hd : 8 ≤ d) (hL : Lay σ)  (p0 : 0 ≤ (σ.I 555 12) ∧ (σ.I 555 12) ≤ 30000) : CC E mX9_stemLong d [aO 555] σ (RV (fun τ => (τ.I 565 = st2W (σ.I 565) (σ.I 555 12)) ∧ (τ.I 555 12 = st2L (σ.I 565) (σ.I 555 12)) ∧ (KS σ τ))) := by sorry
end
section
/-! contracts: printed by tools/mk.py out of s44c_stemX.py -/
set_option maxRecDepth 100000
set_option maxHeartbeats 1500000
def wsXw (c : Nat) (i : Int) : Prop := c = 2 ∧ i = i
abbrev KXw (σ τ : Sto) : Prop := Ch wsXw σ τ
theorem KXw_rf {σ : Sto} : KXw σ σ := Ch.rf
theorem KXw_w {σ τ : Sto} {a : Nat} {i v : Int} (e : τ = σ.wI a i v) (h : wsXw a i) : KXw σ τ := by subst e; exact Ch.wI Ch.rf h
theorem KXw_rd {σ τ : Sto} {F : Nat → Int → Int} (r : τ.R = σ.R) (s : τ.sh = σ.sh) (n : τ.n = σ.n) (e : τ.I = F) (h : ∀ c i, ¬ wsXw c i → F c i = σ.I c i) : KXw σ τ := ⟨⟨r, s, n⟩, fun c i q => by rw [e]; exact h c i q⟩

theorem sp_X10_ends {E : XE} {d : Nat} {σ : Sto} {o0 : Nat} {x1 : Int} {o2 : Nat} (hd : 5 ≤ d) (hL : Lay σ) (ho0 : At10 σ o0) (ho2 : o2 < strB.length) (p0 : 0 ≤ x1 ∧ x1 ≤ 30000) : CC E mX10_ends d [aO o0, aI (x1), aS o2] σ (RZ σ (ew (σ.I 2) o2 x1)) := by sorry
theorem sp_X10_plural {E : XE} {d : Nat} {σ : Sto} {o0 : Nat} {x1 : Int} (hd : 6 ≤ d) (hL : Lay σ) (ho0 : At10 σ o0) (p0 : 0 ≤ x1 ∧ x1 ≤ 30000) : CC E mX10_plural d [aO o0, aI (x1)] σ (RVI (fun y τ => (y = st1L (σ.I 2) x1) ∧ (τ.I 2 = st1W (σ.I 2) x1) ∧ (KXw σ τ))) := by sorry
theorem sp_X10_past {E : XE} {d : Nat} {σ : Sto} {o0 : Nat} {x1 : Int} (hd : 7 ≤ d) (hL : Lay σ) (ho0 : At10 σ o0) (p0 : 0 ≤ x1 ∧ x1 ≤ 30000) : CC E mX10_past d [aO o0, aI (x1)] σ (RVI (fun y τ => (y = s2bL (σ.I 2) x1) ∧ (τ.I 2 = s2bW (σ.I 2) x1) ∧ (KXw σ τ))) := by sorry
end
section
/-! contracts: printed by tools/mk.py out of s44cb_sufX.py -/
set_option maxRecDepth 100000
set_option maxHeartbeats 1500000
theorem mea_nn (w : Int → Int) (n : Int) : 0 ≤ mea w n := by unfold mea; have := cn_in (fun k => vw w k ∧ ¬ vw w (k + 1)) (n - 1); omega

theorem sp_X10_suffix {E : XE} {d : Nat} {σ : Sto} {o0 : Nat} {x1 : Int} (hd : 7 ≤ d) (hL : Lay σ) (ho0 : At10 σ o0) (p0 : 0 ≤ x1 ∧ x1 ≤ 30000) : CC E mX10_suffix d [aO o0, aI (x1)] σ (RVI (fun y τ => (y = s2dL (σ.I 2) x1) ∧ (τ.I 2 = s2dW (σ.I 2) x1) ∧ (KXw σ τ))) := by sorry
theorem low_d {w : Int → Int} {n k x : Int} (h : x = 1 ↔ (3 ≤ n ∧ alN (fun k => 97 ≤ w k ∧ w k ≤ 122) k)) (hk : k ≤ n) (hx : k = n ∨ x = 0) (hx1 : 0 ≤ x ∧ x ≤ 1) : x = 1 ↔ lowW w n := by
  unfold lowW
  rcases hx with z | z
  · rw [z] at h; exact h
  · constructor
    · intro y; omega
    · intro y
      exact h.mpr ⟨y.1, alN_m _ _ _ y.2 hk⟩

theorem sp_X10_stemmed {E : XE} {d : Nat} {σ : Sto} {o0 : Nat} {x1 : Int} (hd : 8 ≤ d) (hL : Lay σ) (ho0 : At10 σ o0) (p0 : 0 ≤ x1 ∧ x1 ≤ 30000) : CC E mX10_stemmed d [aO o0, aI (x1)] σ (RVI (fun y τ => (y = st2L (σ.I 2) x1) ∧ (τ.I 2 = st2W (σ.I 2) x1) ∧ (KXw σ τ))) := by sorry
end
section
/-! contracts: printed by tools/mk.py out of s44d_tokens.py -/
set_option maxRecDepth 100000
set_option maxHeartbeats 1500000
/-! tokens of a word: how many, their sizes, their bytes -/
abbrev TS : Type := Int × (Int → Int) × (Int → Int → Int)
def nrm (n : Int) (r : Int → Int) : Int → Int := fun j => if 0 ≤ j ∧ j < n then r j else 0
def aTq (s : TS) (n : Int) (r : Int → Int) : Prop := 250 < s.1 ∨ exN (fun t => s.2.1 t = n ∧ eqA (s.2.2 t) r 0 0 n) s.1
noncomputable def aT (s : TS) (n : Int) (r : Int → Int) : TS := if zb (aTq s n r) = 1 then s else (s.1 + 1, up1 s.2.1 s.1 n, fun t => if t = s.1 then nrm n r else s.2.2 t)
def eT0 : TS := (0, fun _ => 0, fun _ _ => 0)
noncomputable def grN (g : Int) (v : Int → Int) (s : TS) : Nat → TS
  | 0 => s
  | k + 1 => aT (grN g v s k) g (fun j => v (k + j))
noncomputable def gr (g : Int) (v : Int → Int) (s : TS) (k : Int) : TS := grN g v s k.toNat
theorem grT_0 (g : Int) (v : Int → Int) (s : TS) (k : Int) (h : k ≤ 0) : gr g v s k = s := by
  unfold gr
  have : k.toNat = 0 := by omega
  rw [this]; rfl
theorem grT_s (g : Int) (v : Int → Int) (s : TS) (k m : Int) (h : 0 ≤ k) (hm : m = k + 1) : gr g v s m = aT (gr g v s k) g (fun j => v (k + j)) := by
  unfold gr
  have e : m.toNat = k.toNat + 1 := by omega
  have e2 : ((k.toNat : Nat) : Int) = k := by omega
  rw [e]
  show aT (grN g v s k.toNat) g (fun j => v (((k.toNat : Nat) : Int) + j)) = _
  rw [e2]
/-- the words of an analyser as the model has them: stop words from 60 a on, synonyms in pairs from 60 a + 20 on -/
def tdQ (σ : Sto) (w : Int → Int) (n t : Int) : Prop := σ.I 564 t = n ∧ eqA (σ.I 563) w (20 * t) 0 n
noncomputable def syN (σ : Sto) (a : Int) (w : Int → Int) (n : Int) (s : TS) : Nat → TS
  | 0 => s
  | k + 1 => if zb (tdQ σ w n (60 * a + 20 + 2 * k)) = 1 then aT (syN σ a w n s k) (σ.I 564 (60 * a + 20 + 2 * k + 1)) (fun j => σ.I 563 (20 * (60 * a + 20 + 2 * k + 1) + j)) else syN σ a w n s k
noncomputable def sy (σ : Sto) (a : Int) (w : Int → Int) (n : Int) (s : TS) (k : Int) : TS := syN σ a w n s k.toNat
theorem sy_0 (σ : Sto) (a : Int) (w : Int → Int) (n : Int) (s : TS) (k : Int) (h : k ≤ 0) : sy σ a w n s k = s := by
  unfold sy
  have : k.toNat = 0 := by omega
  rw [this]; rfl
theorem sy_e (σ : Sto) (a : Int) (w : Int → Int) (n : Int) (s : TS) (k m : Int) (h : 0 ≤ k) (hm : m = k + 1) : sy σ a w n s m = if zb (tdQ σ w n (60 * a + 20 + 2 * k)) = 1 then aT (sy σ a w n s k) (σ.I 564 (60 * a + 20 + 2 * k + 1)) (fun j => σ.I 563 (20 * (60 * a + 20 + 2 * k + 1) + j)) else sy σ a w n s k := by
  unfold sy
  have e : m.toNat = k.toNat + 1 := by omega
  have e2 : ((k.toNat : Nat) : Int) = k := by omega
  rw [e]
  show (if zb (tdQ σ w n (60 * a + 20 + 2 * (k.toNat : Nat))) = 1 then _ else _) = _
  rw [e2]
theorem sy_t (σ : Sto) (a : Int) (w : Int → Int) (n : Int) (s : TS) (k m : Int) (h : 0 ≤ k) (hm : m = k + 1) (hq : tdQ σ w n (60 * a + 20 + 2 * k)) : sy σ a w n s m = aT (sy σ a w n s k) (σ.I 564 (60 * a + 20 + 2 * k + 1)) (fun j => σ.I 563 (20 * (60 * a + 20 + 2 * k + 1) + j)) := by rw [sy_e σ a w n s k m h hm, if_pos (zb_t hq)]
theorem sy_f (σ : Sto) (a : Int) (w : Int → Int) (n : Int) (s : TS) (k m : Int) (h : 0 ≤ k) (hm : m = k + 1) (hq : ¬ tdQ σ w n (60 * a + 20 + 2 * k)) : sy σ a w n s m = sy σ a w n s k := by rw [sy_e σ a w n s k m h hm, if_neg (by rw [zb_f hq]; omega)]
noncomputable def wT1 (σ : Sto) (a : Int) (w : Int → Int) (n : Int) : TS := if σ.I 560 a = 0 ∨ stmL (σ.I 559 a) w n ≤ σ.I 560 a then aT eT0 (min (stmL (σ.I 559 a) w n) 20) (stmW (σ.I 559 a) w n) else gr (σ.I 560 a) (stmW (σ.I 559 a) w n) eT0 (stmL (σ.I 559 a) w n - σ.I 560 a + 1)
noncomputable def wT (σ : Sto) (a : Int) (w : Int → Int) (n : Int) : TS := sy σ a w n (wT1 σ a w n) (σ.I 562 a)
def isSt (σ : Sto) (a : Int) (w : Int → Int) (n : Int) : Prop := exN (fun k => tdQ σ w n (60 * a + k)) (σ.I 561 a)
/-- the tokens of the word at hand, as they lie in the model -/
def WTS (σ : Sto) (s : TS) : Prop := σ.I 555 22 = s.1 ∧ (0 ≤ s.1 ∧ s.1 ≤ 251) ∧ ∀ t, 0 ≤ t → t < s.1 → σ.I 573 t = s.2.1 t ∧ (0 ≤ s.2.1 t ∧ s.2.1 t ≤ 20) ∧ ∀ k, 0 ≤ k → k < s.2.1 t → σ.I 572 (20 * t + k) = s.2.2 t k
theorem WTS_0 {σ : Sto} (h : σ.I 555 22 = 0) : WTS σ eT0 := ⟨h, ⟨Int.le_refl _, by decide⟩, fun t h0 h1 => absurd h1 (by show ¬ t < 0; omega)⟩
theorem WTS_add {σ τ : Sto} {s : TS} {A : Int → Int} {x2 n : Int} (h : WTS σ s) (hn : 0 ≤ n ∧ n ≤ 20)
    (h1 : σ.I 555 22 ≤ 250 → τ.I 555 22 = σ.I 555 22 + 1 - zb (exN (fun t => τ.I 573 t = n ∧ eqA (τ.I 572) (τ.I 572) (20 * t) (20 * σ.I 555 22) n) (σ.I 555 22)))
    (h2 : τ.I = fun c i => if σ.I 555 22 ≤ 250 then (if at2 c i 555 22 then τ.I c i else if rg c i 572 (20 * σ.I 555 22) (20 * σ.I 555 22 + n) then A (x2 + (i - 20 * σ.I 555 22)) else if at2 c i 573 (σ.I 555 22) then n else σ.I c i) else σ.I c i) : WTS τ (aT s n (fun j => A (x2 + j))) := by
  obtain ⟨hc, hb, ha⟩ := h
  by_cases big : 250 < s.1
  · have e : aT s n (fun j => A (x2 + j)) = s := by unfold aT; exact if_pos (zb_t (show aTq s n _ from Or.inl big))
    rw [e]
    have hI : τ.I = σ.I := by rw [h2]; funext c i; rw [if_neg (by omega)]
    unfold WTS
    rw [hI]
    exact ⟨hc, hb, ha⟩
  · have hle : σ.I 555 22 ≤ 250 := by omega
    have q1 : ∀ t, t ≠ s.1 → τ.I 573 t = σ.I 573 t := fun t ht => by
      rw [h2]
      show (if σ.I 555 22 ≤ 250 then (if at2 573 t 555 22 then _ else if rg 573 t 572 _ _ then _ else if at2 573 t 573 (σ.I 555 22) then _ else _) else _) = _
      rw [if_pos hle, if_neg (fun z => absurd z.1 (by decide)), if_neg (fun z => absurd z.1 (by decide)), if_neg (fun z => ht (by rw [← hc]; exact z.2))]
    have q2 : τ.I 573 s.1 = n := by
      rw [h2]
      show (if σ.I 555 22 ≤ 250 then (if at2 573 s.1 555 22 then _ else if rg 573 s.1 572 _ _ then _ else if at2 573 s.1 573 (σ.I 555 22) then _ else _) else _) = _
      rw [if_pos hle, if_neg (fun z => absurd z.1 (by decide)), if_neg (fun z => absurd z.1 (by decide)), if_pos ⟨rfl, hc.symm⟩]
    have q3 : ∀ i, i < 20 * s.1 → τ.I 572 i = σ.I 572 i := fun i hi => by
      rw [h2]
      show (if σ.I 555 22 ≤ 250 then (if at2 572 i 555 22 then _ else if rg 572 i 572 _ _ then _ else if at2 572 i 573 (σ.I 555 22) then _ else _) else _) = _
      rw [if_pos hle, if_neg (fun z => absurd z.1 (by decide)), if_neg (fun z => by have := z.2.1; omega), if_neg (fun z => absurd z.1 (by decide))]
    have q4 : ∀ k, 0 ≤ k → k < n → τ.I 572 (20 * s.1 + k) = A (x2 + k) := fun k k0 k1 => by
      rw [h2]
      show (if σ.I 555 22 ≤ 250 then (if at2 572 (20 * s.1 + k) 555 22 then _ else if rg 572 (20 * s.1 + k) 572 _ _ then _ else _) else _) = _
      rw [if_pos hle, if_neg (fun z => absurd z.1 (by decide)), if_pos ⟨rfl, by omega, by omega⟩, hc]
      congr 1; omega
    have q5 : exN (fun t => τ.I 573 t = n ∧ eqA (τ.I 572) (τ.I 572) (20 * t) (20 * σ.I 555 22) n) (σ.I 555 22) ↔ exN (fun t => s.2.1 t = n ∧ eqA (s.2.2 t) (fun j => A (x2 + j)) 0 0 n) s.1 := by
      rw [hc]
      refine exN_cg (fun t t0 t1 => ?_)
      obtain ⟨a1, a2, a3⟩ := ha t t0 t1
      rw [q1 t (by omega), a1]
      constructor
      · rintro ⟨z1, z2⟩
        refine ⟨z1, fun k k0 k1 => ?_⟩
        have z3 : τ.I 572 (20 * t + k) = τ.I 572 (20 * s.1 + k) := z2 k k0 k1
        rw [q3 _ (by omega), a3 k k0 (by omega), q4 k k0 k1] at z3
        show s.2.2 t (0 + k) = A (x2 + (0 + k))
        rw [Int.zero_add]; exact z3
      · rintro ⟨z1, z2⟩
        refine ⟨z1, fun k k0 k1 => ?_⟩
        have z3 : s.2.2 t (0 + k) = A (x2 + (0 + k)) := z2 k k0 k1
        rw [Int.zero_add] at z3
        show τ.I 572 (20 * t + k) = τ.I 572 (20 * s.1 + k)
        rw [q3 _ (by omega), a3 k k0 (by omega), q4 k k0 k1]; exact z3
    have h3 := h1 hle
    rw [zb_iff q5] at h3
    by_cases hx : exN (fun t => s.2.1 t = n ∧ eqA (s.2.2 t) (fun j => A (x2 + j)) 0 0 n) s.1
    · have e : aT s n (fun j => A (x2 + j)) = s := by unfold aT; exact if_pos (zb_t (show aTq s n _ from Or.inr hx))
      rw [e]
      rw [zb_t hx] at h3
      refine ⟨by omega, hb, fun t t0 t1 => ?_⟩
      obtain ⟨a1, a2, a3⟩ := ha t t0 t1
      exact ⟨by rw [q1 t (by omega)]; exact a1, a2, fun k k0 k1 => by rw [q3 _ (by omega)]; exact a3 k k0 k1⟩
    · have e : aT s n (fun j => A (x2 + j)) = (s.1 + 1, up1 s.2.1 s.1 n, fun t => if t = s.1 then nrm n (fun j => A (x2 + j)) else s.2.2 t) := by unfold aT; rw [if_neg (by rw [zb_f (fun z => z.elim big hx)]; omega)]
      rw [e]
      rw [zb_f hx] at h3
      refine ⟨by show τ.I 555 22 = s.1 + 1; omega, ⟨by show 0 ≤ s.1 + 1; omega, by show s.1 + 1 ≤ 251; omega⟩, fun t t0 t1 => ?_⟩
      have t1' : t < s.1 + 1 := t1
      show τ.I 573 t = up1 s.2.1 s.1 n t ∧ (0 ≤ up1 s.2.1 s.1 n t ∧ up1 s.2.1 s.1 n t ≤ 20) ∧ ∀ k, 0 ≤ k → k < up1 s.2.1 s.1 n t → τ.I 572 (20 * t + k) = (if t = s.1 then nrm n (fun j => A (x2 + j)) else s.2.2 t) k
      unfold up1
      by_cases et : t = s.1
      · subst et
        rw [if_pos rfl, if_pos rfl]
        refine ⟨q2, hn, fun k k0 k1 => ?_⟩
        rw [q4 k k0 k1]
        unfold nrm
        rw [if_pos ⟨k0, k1⟩]
      · rw [if_neg et, if_neg et]
        obtain ⟨a1, a2, a3⟩ := ha t t0 (by omega)
        exact ⟨by rw [q1 t et]; exact a1, a2, fun k k0 k1 => by rw [q3 _ (by omega)]; exact a3 k k0 k1⟩

section ECG3
variable {N n : Int} {w v : Int → Int}
theorem nrm_cg {m : Int} {r q : Int → Int} (h : EQ m r q) : nrm m r = nrm m q := by
  funext j
  unfold nrm
  by_cases z : 0 ≤ j ∧ j < m
  · rw [if_pos z, if_pos z]; exact h j z.1 z.2
  · rw [if_neg z, if_neg z]
theorem aT_cg {s : TS} {m : Int} {r q : Int → Int} (h : EQ m r q) : aT s m r = aT s m q := by
  unfold aT
  have e : aTq s m r ↔ aTq s m q := or_congr Iff.rfl (exN_cg (fun t t0 t1 => and_congr Iff.rfl (alN_cg (fun k k0 k1 => by rw [h (0 + k) (by omega) (by omega)]))))
  rw [zb_iff e, nrm_cg h]
theorem grN_cg {g : Int} {r q : Int → Int} {s : TS} {L : Int} (h : EQ L r q) : ∀ k : Nat, (k : Int) + g ≤ L + 1 → grN g r s k = grN g q s k := by
  intro k
  induction k with
  | zero => intro _; rfl
  | succ k ih =>
    intro hk
    show aT (grN g r s k) g (fun j => r (k + j)) = aT (grN g q s k) g (fun j => q (k + j))
    rw [ih (by omega)]
    exact aT_cg (fun j j0 j1 => h (k + j) (by omega) (by omega))
theorem tdQ_cg {σ : Sto} {t : Int} (h : EQ N w v) (hn : n ≤ N) : tdQ σ w n t ↔ tdQ σ v n t := by
  unfold tdQ
  exact and_congr Iff.rfl (alN_cg (fun k k0 k1 => by rw [h (0 + k) (by omega) (by omega)]))
theorem isSt_cg {σ : Sto} {a : Int} (h : EQ N w v) (hn : n ≤ N) : isSt σ a w n ↔ isSt σ a v n := exN_cg (fun k k0 k1 => tdQ_cg h hn)
theorem wT_cg {σ : Sto} {a : Int} (h : EQ n w v) (h0 : 0 ≤ n) : wT σ a w n = wT σ a v n := by
  have e1 := stmL_cg (σ.I 559 a) h h0 (Int.le_refl n)
  have e2 := stmW_cg (σ.I 559 a) h h0 (Int.le_refl n)
  have b := stmL_b (w := v) (σ.I 559 a) h0
  have q : wT1 σ a w n = wT1 σ a v n := by
    unfold wT1
    rw [e1]
    split
    · exact aT_cg (fun k k0 k1 => e2 k k0 (by omega))
    · unfold gr
      rename_i z
      exact grN_cg e2 _ (by omega)
  unfold wT sy
  rw [q]
  have key : ∀ k : Nat, syN σ a w n (wT1 σ a v n) k = syN σ a v n (wT1 σ a v n) k := by
    intro k
    induction k with
    | zero => rfl
    | succ k ih =>
      show (if zb (tdQ σ w n _) = 1 then _ else _) = (if zb (tdQ σ v n _) = 1 then _ else _)
      rw [zb_iff (tdQ_cg h (Int.le_refl n)), ih]
  exact key _
end ECG3

/-! tokens of a text: how many, sizes, bytes, where they begin and end, positions -/
abbrev TL : Type := Int × (Int → Int) × (Int → Int → Int) × (Int → Int) × (Int → Int) × (Int → Int)
def tl0 : TL := (0, fun _ => 0, fun _ _ => 0, fun _ => 0, fun _ => 0, fun _ => 0)
def apT (l : TL) (s : TS) (j st en po : Int) : TL := (l.1 + j, fun k => if l.1 ≤ k then s.2.1 (k - l.1) else l.2.1 k, fun k => if l.1 ≤ k then s.2.2 (k - l.1) else l.2.2.1 k, fun k => if l.1 ≤ k then st else l.2.2.2.1 k, fun k => if l.1 ≤ k then en else l.2.2.2.2.1 k, fun k => if l.1 ≤ k then po else l.2.2.2.2.2 k)
/-- where the letters from b on end -/
noncomputable def we (A : Int → Int) (b to : Int) : Int := if fsF (fun k => ¬ isLet (A k % 256)) b to = -1 then to else fsF (fun k => ¬ isLet (A k % 256)) b to
theorem we_at {A : Int → Int} {b e to : Int} (h0 : 0 ≤ b) (hb : b ≤ e) (he : e ≤ to) (hl : alF (fun k => isLet (A k % 256)) b e) (hs : e = to ∨ ¬ isLet (A e % 256)) : we A b to = e := by
  unfold we
  obtain ⟨n, hn⟩ : ∃ n : Nat, (e - b).toNat = n := ⟨_, rfl⟩
  induction n generalizing b with
  | zero =>
    have hbe : b = e := by omega
    subst hbe
    by_cases q : b = to
    · rw [fsF_e _ _ _ (by omega), if_pos rfl, q]
    · have h1 : ¬ isLet (A b % 256) := hs.elim (fun z => absurd z q) id
      rw [fsF_t _ _ _ (by omega) h1, if_neg (by omega)]
  | succ n ih =>
    have h1 : ¬ ¬ isLet (A b % 256) := fun z => z (hl b (Int.le_refl _) (by omega))
    rw [fsF_f _ b (b + 1) to (by omega) rfl h1]
    exact ih (by omega) (by omega) (fun k k0 k1 => hl k (by omega) k1) (by omega)
theorem we_b {A : Int → Int} {b to : Int} (h0 : 0 ≤ b) (hb : b < to) (hl : isLet (A b % 256)) : b < we A b to ∧ we A b to ≤ to := by
  unfold we
  rcases fsF_in (fun k => ¬ isLet (A k % 256)) b to with z | ⟨z1, z2, z3⟩
  · rw [if_pos z]; omega
  · rw [if_neg (by omega)]
    refine ⟨?_, by omega⟩
    have : fsF (fun k => ¬ isLet (A k % 256)) b to ≠ b := fun q => by rw [q] at z3; exact z3 hl
    omega
/-- the word of n bytes from b on, folded -/
def wF (σ : Sto) (a : Int) (A : Int → Int) (b n k : Int) : Int := if 0 ≤ k ∧ k < n then (if σ.I 558 a = 1 then fo (A (b + k)) else A (b + k)) else 0
noncomputable def tkS (σ : Sto) (a : Int) (A : Int → Int) (f to : Int) : Int × Int × TL → (Int × Int × TL) ⊕ TL := fun s =>
  if s.1 < to then
    (if zb (isLet (A s.1 % 256)) = 1 then
      (if zb (isSt σ a (wF σ a A s.1 (we A s.1 to - s.1)) (we A s.1 to - s.1)) = 1 then .inl (we A s.1 to, s.2.1 + 1, s.2.2)
       else if s.2.2.1 + (wT σ a (wF σ a A s.1 (we A s.1 to - s.1)) (we A s.1 to - s.1)).1 ≤ 250 then .inl (we A s.1 to, s.2.1 + 1, apT s.2.2 (wT σ a (wF σ a A s.1 (we A s.1 to - s.1)) (we A s.1 to - s.1)) (wT σ a (wF σ a A s.1 (we A s.1 to - s.1)) (we A s.1 to - s.1)).1 (s.1 - f) (we A s.1 to - f) s.2.1)
       else .inr s.2.2)
     else .inl (s.1 + 1, s.2.1, s.2.2))
  else .inr s.2.2
noncomputable def tk (σ : Sto) (a : Int) (A : Int → Int) (f to i p : Int) (l : TL) : TL := rs tl0 (tkS σ a A f to) (i, p, l)
section TKS
variable {σ : Sto} {a : Int} {A : Int → Int} {f to i p : Int} {l : TL}
theorem tk_end (h : to ≤ i) : tk σ a A f to i p l = l := rs_e (by show (if i < to then _ else _) = _; rw [if_neg (by omega)])
theorem tk_skip (h : i < to) (hl : ¬ isLet (A i % 256)) : tk σ a A f to i p l = tk σ a A f to (i + 1) p l := rs_s (by show (if i < to then (if zb (isLet (A i % 256)) = 1 then _ else _) else _) = _; rw [if_pos h, if_neg (by rw [zb_f hl]; omega)])
theorem tk_stop {e : Int} (h : i < to) (hl : isLet (A i % 256)) (he : we A i to = e) (hs : isSt σ a (wF σ a A i (e - i)) (e - i)) : tk σ a A f to i p l = tk σ a A f to e (p + 1) l := by
  subst he
  exact rs_s (by show (if i < to then (if zb (isLet (A i % 256)) = 1 then (if zb (isSt σ a (wF σ a A i (we A i to - i)) (we A i to - i)) = 1 then _ else _) else _) else _) = _; rw [if_pos h, if_pos (zb_t hl), if_pos (zb_t hs)])
theorem tk_word {e : Int} {s : TS} (h : i < to) (hl : isLet (A i % 256)) (he : we A i to = e) (hs : ¬ isSt σ a (wF σ a A i (e - i)) (e - i)) (hw : wT σ a (wF σ a A i (e - i)) (e - i) = s) (hr : l.1 + s.1 ≤ 250) : tk σ a A f to i p l = tk σ a A f to e (p + 1) (apT l s s.1 (i - f) (e - f) p) := by
  subst he
  subst hw
  exact rs_s (by show (if i < to then (if zb (isLet (A i % 256)) = 1 then (if zb (isSt σ a (wF σ a A i (we A i to - i)) (we A i to - i)) = 1 then _ else if l.1 + _ ≤ 250 then _ else _) else _) else _) = _; rw [if_pos h, if_pos (zb_t hl), if_neg (by rw [zb_f hs]; omega), if_pos hr])
theorem tk_full {e : Int} {s : TS} (h : i < to) (hl : isLet (A i % 256)) (he : we A i to = e) (hs : ¬ isSt σ a (wF σ a A i (e - i)) (e - i)) (hw : wT σ a (wF σ a A i (e - i)) (e - i) = s) (hr : 250 < l.1 + s.1) : tk σ a A f to i p l = l := by
  subst he
  subst hw
  exact rs_e (by show (if i < to then (if zb (isLet (A i % 256)) = 1 then (if zb (isSt σ a (wF σ a A i (we A i to - i)) (we A i to - i)) = 1 then _ else if l.1 + _ ≤ 250 then _ else _) else _) else _) = _; rw [if_pos h, if_pos (zb_t hl), if_neg (by rw [zb_f hs]; omega), if_neg (Int.not_le.mpr hr)])
end TKS
def TLM (σ : Sto) (l : TL) : Prop := σ.I 555 19 = l.1 ∧ (0 ≤ l.1 ∧ l.1 ≤ 250) ∧ ∀ t, 0 ≤ t → t < l.1 → (σ.I 568 t = l.2.1 t ∧ 0 ≤ l.2.1 t ∧ l.2.1 t ≤ 20) ∧ (σ.I 569 t = l.2.2.2.1 t ∧ σ.I 570 t = l.2.2.2.2.1 t ∧ σ.I 571 t = l.2.2.2.2.2 t) ∧ ∀ k, 0 ≤ k → k < l.2.1 t → σ.I 567 (20 * t + k) = l.2.2.1 t k
theorem TLM_0 {σ : Sto} (h : σ.I 555 19 = 0) : TLM σ tl0 := ⟨h, ⟨Int.le_refl _, by decide⟩, fun t h0 h1 => absurd h1 (by show ¬ t < 0; omega)⟩
/-- analysers are well made -/
def AC (σ : Sto) : Prop := bd_0_1 σ 558 6 ∧ bd_0_2 σ 559 6 ∧ bd_0_5 σ 560 6 ∧ bd_0_20 σ 561 6 ∧ bd_0_20 σ 562 6 ∧ bd_0_20 σ 564 360
theorem AC_k {σ τ : Sto} (h : KM σ τ) (g : AC σ) : AC τ := by
  obtain ⟨g1, g2, g3, g4, g5, g6⟩ := g
  exact ⟨fun i a b => by rw [km_558 h]; exact g1 i a b, fun i a b => by rw [km_559 h]; exact g2 i a b, fun i a b => by rw [km_560 h]; exact g3 i a b, fun i a b => by rw [km_561 h]; exact g4 i a b, fun i a b => by rw [km_562 h]; exact g5 i a b, fun i a b => by rw [km_564 h]; exact g6 i a b⟩
theorem AC_at {σ : Sto} {a : Int} (g : AC σ) (h0 : 0 ≤ a) (h1 : a < 6) : (0 ≤ σ.I 558 a ∧ σ.I 558 a ≤ 1) ∧ (0 ≤ σ.I 559 a ∧ σ.I 559 a ≤ 2) ∧ (0 ≤ σ.I 560 a ∧ σ.I 560 a ≤ 5) ∧ (0 ≤ σ.I 561 a ∧ σ.I 561 a ≤ 20) ∧ (0 ≤ σ.I 562 a ∧ σ.I 562 a ≤ 20) := ⟨g.1 a h0 h1, g.2.1 a h0 h1, g.2.2.1 a h0 h1, g.2.2.2.1 a h0 h1, g.2.2.2.2.1 a h0 h1⟩
theorem tdQ_k {σ τ : Sto} (h : KM σ τ) : tdQ τ = tdQ σ := by funext w n t; unfold tdQ; rw [km_563 h, km_564 h]
theorem isSt_k {σ τ : Sto} (h : KM σ τ) : isSt τ = isSt σ := by funext a w n; unfold isSt; rw [tdQ_k h, km_561 h]
theorem sy_k {σ τ : Sto} (h : KM σ τ) : sy τ = sy σ := by
  funext a w n s k
  unfold sy
  have key : ∀ k : Nat, syN τ a w n s k = syN σ a w n s k := by
    intro k
    induction k with
    | zero => rfl
    | succ k ih =>
      show (if zb (tdQ τ w n _) = 1 then aT (syN τ a w n s k) _ _ else syN τ a w n s k) = (if zb (tdQ σ w n _) = 1 then aT (syN σ a w n s k) _ _ else syN σ a w n s k)
      rw [tdQ_k h, ih, km_563 h, km_564 h]
  exact key _
theorem wT1_k {σ τ : Sto} (h : KM σ τ) : wT1 τ = wT1 σ := by funext a w n; unfold wT1; rw [km_560 h, km_559 h]
theorem wT_k {σ τ : Sto} (h : KM σ τ) : wT τ = wT σ := by funext a w n; unfold wT; rw [wT1_k h, sy_k h, km_562 h]
theorem wF_k {σ τ : Sto} (h : KM σ τ) : wF τ = wF σ := by funext a A b n k; unfold wF; rw [km_558 h]
theorem tk_k {σ τ : Sto} (h : KM σ τ) : tk τ = tk σ := by
  funext a A f to i p l
  unfold tk
  have e : tkS τ a A f to = tkS σ a A f to := by funext s; unfold tkS; rw [isSt_k h, wT_k h, wF_k h]
  rw [e]

theorem WTS_ad {σ τ : Sto} {s : TS} {A v : Int → Int} {x2 n : Int} (h : WTS σ s) (hn : 0 ≤ n ∧ n ≤ 20)
    (h1 : σ.I 555 22 ≤ 250 → τ.I 555 22 = σ.I 555 22 + 1 - zb (exN (fun t => τ.I 573 t = n ∧ eqA (τ.I 572) (τ.I 572) (20 * t) (20 * σ.I 555 22) n) (σ.I 555 22)))
    (h2 : τ.I = fun c i => if σ.I 555 22 ≤ 250 then (if at2 c i 555 22 then τ.I c i else if rg c i 572 (20 * σ.I 555 22) (20 * σ.I 555 22 + n) then A (x2 + (i - 20 * σ.I 555 22)) else if at2 c i 573 (σ.I 555 22) then n else σ.I c i) else σ.I c i) (hv : EQ n (fun j => A (x2 + j)) v) : WTS τ (aT s n v) := by
  rw [← aT_cg hv]
  exact WTS_add h hn h1 h2
/-- what a token of a word does not touch -/
theorem ad_fr {σ τ : Sto} {A : Int → Int} {x2 n : Int} (h2 : τ.I = fun c i => if σ.I 555 22 ≤ 250 then (if at2 c i 555 22 then τ.I c i else if rg c i 572 (20 * σ.I 555 22) (20 * σ.I 555 22 + n) then A (x2 + (i - 20 * σ.I 555 22)) else if at2 c i 573 (σ.I 555 22) then n else σ.I c i) else σ.I c i) (c : Nat) (hc : c ≠ 555 ∧ c ≠ 572 ∧ c ≠ 573) : τ.I c = σ.I c := by
  funext i
  rw [h2]
  show (if σ.I 555 22 ≤ 250 then (if at2 c i 555 22 then _ else if rg c i 572 _ _ then _ else if at2 c i 573 (σ.I 555 22) then _ else _) else _) = _
  split
  · rw [if_neg (fun z => hc.1 z.1), if_neg (fun z => hc.2.1 z.1), if_neg (fun z => hc.2.2 z.1)]
  · rfl
theorem ad_len {σ τ : Sto} {A : Int → Int} {x2 n : Int} (h2 : τ.I = fun c i => if σ.I 555 22 ≤ 250 then (if at2 c i 555 22 then τ.I c i else if rg c i 572 (20 * σ.I 555 22) (20 * σ.I 555 22 + n) then A (x2 + (i - 20 * σ.I 555 22)) else if at2 c i 573 (σ.I 555 22) then n else σ.I c i) else σ.I c i) : τ.I 555 12 = σ.I 555 12 := by
  rw [h2]
  show (if σ.I 555 22 ≤ 250 then (if at2 555 12 555 22 then _ else if rg 555 12 572 _ _ then _ else if at2 555 12 573 (σ.I 555 22) then _ else _) else _) = _
  split
  · rw [if_neg (fun z => absurd z.2 (by decide)), if_neg (fun z => absurd z.1 (by decide)), if_neg (fun z => absurd z.1 (by decide))]
  · rfl
theorem ad_b {σ τ : Sto} {A : Int → Int} {x2 n : Int} (hn : 0 ≤ n ∧ n ≤ 20) (h : bd_0_20 σ 573 300) (h2 : τ.I = fun c i => if σ.I 555 22 ≤ 250 then (if at2 c i 555 22 then τ.I c i else if rg c i 572 (20 * σ.I 555 22) (20 * σ.I 555 22 + n) then A (x2 + (i - 20 * σ.I 555 22)) else if at2 c i 573 (σ.I 555 22) then n else σ.I c i) else σ.I c i) : bd_0_20 τ 573 300 := by
  intro i h0 h1
  rw [h2]
  show 0 ≤ (if σ.I 555 22 ≤ 250 then (if at2 573 i 555 22 then _ else if rg 573 i 572 _ _ then _ else if at2 573 i 573 (σ.I 555 22) then _ else _) else _) ∧ (if σ.I 555 22 ≤ 250 then (if at2 573 i 555 22 then _ else if rg 573 i 572 _ _ then _ else if at2 573 i 573 (σ.I 555 22) then _ else _) else _) ≤ 20
  have := h i h0 h1
  split
  · rw [if_neg (fun z => absurd z.1 (by decide)), if_neg (fun z => absurd z.1 (by decide))]
    split <;> omega
  · omega

/-- what the reading of a word writes -/
def wsA (c : Nat) (i : Int) : Prop := c = 565 ∨ c = 566 ∨ c = 572 ∨ c = 573 ∨ c = 574 ∨ (c = 555 ∧ (i = 12 ∨ i = 22))
abbrev KA (σ τ : Sto) : Prop := Ch wsA σ τ
theorem KA_rf {σ : Sto} : KA σ σ := Ch.rf
theorem KA_w {σ τ : Sto} {a : Nat} {i v : Int} (e : τ = σ.wI a i v) (h : wsA a i) : KA σ τ := by subst e; exact Ch.wI Ch.rf h
theorem KA_rd {σ τ : Sto} {F : Nat → Int → Int} (r : τ.R = σ.R) (s : τ.sh = σ.sh) (n : τ.n = σ.n) (e : τ.I = F) (h : ∀ c i, ¬ wsA c i → F c i = σ.I c i) : KA σ τ := ⟨⟨r, s, n⟩, fun c i q => by rw [e]; exact h c i q⟩
theorem KM_of_KA {σ τ : Sto} (h : KA σ τ) : KM σ τ := Ch.mono h (fun c i q => by unfold wsA at q; unfold wsM; omega)
theorem KA_of_KS {σ τ : Sto} (h : KS σ τ) : KA σ τ := Ch.mono h (fun c i q => by unfold wsSM at q; unfold wsA; omega)
theorem KM_of_KS {σ τ : Sto} (h : KS σ τ) : KM σ τ := Ch.mono h (fun c i q => by unfold wsSM at q; unfold wsM; omega)
theorem stmL_n2 {m : Int} {w : Int → Int} {n : Int} (h : m ≠ 2) : stmL m w n = if m = 1 then st1L w n else n := by unfold stmL; rw [if_neg h]
theorem stmW_n2 {m : Int} {w : Int → Int} {n : Int} (h : m ≠ 2) : stmW m w n = if m = 1 then st1W w n else w := by unfold stmW; rw [if_neg h]
theorem stmL_2 {m : Int} {w : Int → Int} {n : Int} (h : m = 2) : stmL m w n = st2L w n := by unfold stmL; rw [if_neg (by omega), if_pos h]
theorem stmW_2 {m : Int} {w : Int → Int} {n : Int} (h : m = 2) : stmW m w n = st2W w n := by unfold stmW; rw [if_neg (by omega), if_pos h]
theorem WTS_b {σ : Sto} {s : TS} (h : WTS σ s) : 0 ≤ σ.I 555 22 ∧ σ.I 555 22 ≤ 251 := by rw [h.1]; exact h.2.1
theorem WTS_fr {σ τ : Sto} {s : TS} (h : WTS σ s) (h0 : τ.I 555 22 = σ.I 555 22) (h1 : τ.I 573 = σ.I 573) (h2 : τ.I 572 = σ.I 572) : WTS τ s := by unfold WTS; rw [h0, h1, h2]; exact h
theorem wT1_1 {σ : Sto} {a n : Int} {w : Int → Int} (h : σ.I 560 a = 0 ∨ stmL (σ.I 559 a) w n ≤ σ.I 560 a) : wT1 σ a w n = aT eT0 (min (stmL (σ.I 559 a) w n) 20) (stmW (σ.I 559 a) w n) := by unfold wT1; rw [if_pos h]
theorem wT1_2 {σ : Sto} {a n : Int} {w : Int → Int} (h : ¬ (σ.I 560 a = 0 ∨ stmL (σ.I 559 a) w n ≤ σ.I 560 a)) : wT1 σ a w n = gr (σ.I 560 a) (stmW (σ.I 559 a) w n) eT0 (stmL (σ.I 559 a) w n - σ.I 560 a + 1) := by unfold wT1; rw [if_neg h]

theorem sp_X9_analyseWord {E : XE} {d : Nat} {σ : Sto} {x1 : Int} {o2 : Nat} {n2 : Nat} {x3 : Int} {x4 : Int} (hd : 14 ≤ d) (hL : Lay σ) (ho2 : σ.sh o2 = (1, n2)) (p0 : 0 ≤ x1 ∧ x1 < 6) (p1 : 0 ≤ x3 ∧ x3 ≤ x4 ∧ x4 ≤ n2 ∧ x4 ≤ x3 + 30000) (p2 : o2 = 557 ∨ (603 ≤ o2 ∧ o2 ≤ 607) ∨ o2 = 640) (p3 : AC σ) (p4 : bd_0_20 σ 573 300) (p5 : (n2 : Int) ≤ 1000000) : CC E mX9_analyseWord d [aO 555, aI (x1), aO o2, aI (x3), aI (x4)] σ (RVZ (fun y τ => (y = 1 ↔ ¬ isSt σ x1 (wF σ x1 (σ.I o2) x3 (x4 - x3)) (x4 - x3)) ∧ (y = 1 → WTS τ (wT σ x1 (wF σ x1 (σ.I o2) x3 (x4 - x3)) (x4 - x3))) ∧ (bd_0_20 τ 573 300) ∧ (KA σ τ))) := by sorry
end
section
/-! contracts: printed by tools/mk.py out of s44e_row.py -/
set_option maxRecDepth 100000
set_option maxHeartbeats 1500000
section TLMS
variable {σ τ : Sto} {l : TL} {s : TS} {j st en po : Int}
/-- one more token of the word -/
theorem TLM_take (h : TLM σ (apT l s j st en po)) (hl : 0 ≤ l.1) (hw : WTS σ s) (hj : 0 ≤ j ∧ j < s.1) (hc : l.1 + s.1 ≤ 250)
    (e : τ.I = fun c i => if at2 c i 568 (σ.I 555 19) then σ.I 573 j else if rg c i 567 (20 * σ.I 555 19) (20 * σ.I 555 19 + σ.I 573 j) then σ.I 572 (20 * j + (i - 20 * σ.I 555 19)) else if at2 c i 569 (σ.I 555 19) then st else if at2 c i 570 (σ.I 555 19) then en else if at2 c i 571 (σ.I 555 19) then po else if at2 c i 555 19 then σ.I 555 19 + 1 else σ.I c i) : TLM τ (apT l s (j + 1) st en po) := by
  obtain ⟨hn, hb, ha⟩ := h
  have n1 : σ.I 555 19 = l.1 + j := hn
  obtain ⟨w1, w2, w3⟩ := hw
  obtain ⟨z1, z2, z3⟩ := w3 j hj.1 hj.2
  have c19 : τ.I 555 19 = l.1 + (j + 1) := by
    rw [e]
    show (if at2 555 19 568 _ then _ else if rg 555 19 567 _ _ then _ else if at2 555 19 569 _ then _ else if at2 555 19 570 _ then _ else if at2 555 19 571 _ then _ else if at2 555 19 555 19 then _ else _) = _
    rw [if_neg (fun z => absurd z.1 (by decide)), if_neg (fun z => absurd z.1 (by decide)), if_neg (fun z => absurd z.1 (by decide)), if_neg (fun z => absurd z.1 (by decide)), if_neg (fun z => absurd z.1 (by decide)), if_pos ⟨rfl, rfl⟩, n1]; omega
  have q8 : ∀ t, τ.I 568 t = if t = l.1 + j then s.2.1 j else σ.I 568 t := fun t => by
    rw [e]
    show (if at2 568 t 568 _ then _ else if rg 568 t 567 _ _ then _ else if at2 568 t 569 _ then _ else if at2 568 t 570 _ then _ else if at2 568 t 571 _ then _ else if at2 568 t 555 19 then _ else _) = _
    by_cases q : t = l.1 + j
    · rw [if_pos ⟨rfl, by rw [n1]; exact q⟩, if_pos q]; exact z1
    · rw [if_neg (fun z => q (by rw [← n1]; exact z.2)), if_neg (fun z => absurd z.1 (by decide)), if_neg (fun z => absurd z.1 (by decide)), if_neg (fun z => absurd z.1 (by decide)), if_neg (fun z => absurd z.1 (by decide)), if_neg (fun z => absurd z.1 (by decide)), if_neg q]
  have q9 : ∀ t, τ.I 569 t = if t = l.1 + j then st else σ.I 569 t := fun t => by
    rw [e]
    show (if at2 569 t 568 _ then _ else if rg 569 t 567 _ _ then _ else if at2 569 t 569 _ then _ else if at2 569 t 570 _ then _ else if at2 569 t 571 _ then _ else if at2 569 t 555 19 then _ else _) = _
    rw [if_neg (fun z => absurd z.1 (by decide)), if_neg (fun z => absurd z.1 (by decide))]
    by_cases q : t = l.1 + j
    · rw [if_pos ⟨rfl, by rw [n1]; exact q⟩, if_pos q]
    · rw [if_neg (fun z => q (by rw [← n1]; exact z.2)), if_neg (fun z => absurd z.1 (by decide)), if_neg (fun z => absurd z.1 (by decide)), if_neg (fun z => absurd z.1 (by decide)), if_neg q]
  have q10 : ∀ t, τ.I 570 t = if t = l.1 + j then en else σ.I 570 t := fun t => by
    rw [e]
    show (if at2 570 t 568 _ then _ else if rg 570 t 567 _ _ then _ else if at2 570 t 569 _ then _ else if at2 570 t 570 _ then _ else if at2 570 t 571 _ then _ else if at2 570 t 555 19 then _ else _) = _
    rw [if_neg (fun z => absurd z.1 (by decide)), if_neg (fun z => absurd z.1 (by decide)), if_neg (fun z => absurd z.1 (by decide))]
    by_cases q : t = l.1 + j
    · rw [if_pos ⟨rfl, by rw [n1]; exact q⟩, if_pos q]
    · rw [if_neg (fun z => q (by rw [← n1]; exact z.2)), if_neg (fun z => absurd z.1 (by decide)), if_neg (fun z => absurd z.1 (by decide)), if_neg q]
  have q11 : ∀ t, τ.I 571 t = if t = l.1 + j then po else σ.I 571 t := fun t => by
    rw [e]
    show (if at2 571 t 568 _ then _ else if rg 571 t 567 _ _ then _ else if at2 571 t 569 _ then _ else if at2 571 t 570 _ then _ else if at2 571 t 571 _ then _ else if at2 571 t 555 19 then _ else _) = _
    rw [if_neg (fun z => absurd z.1 (by decide)), if_neg (fun z => absurd z.1 (by decide)), if_neg (fun z => absurd z.1 (by decide)), if_neg (fun z => absurd z.1 (by decide))]
    by_cases q : t = l.1 + j
    · rw [if_pos ⟨rfl, by rw [n1]; exact q⟩, if_pos q]
    · rw [if_neg (fun z => q (by rw [← n1]; exact z.2)), if_neg (fun z => absurd z.1 (by decide)), if_neg q]
  have q7 : ∀ t k, 0 ≤ k → k < 20 → τ.I 567 (20 * t + k) = if t = l.1 + j ∧ k < s.2.1 j then σ.I 572 (20 * j + k) else σ.I 567 (20 * t + k) := fun t k k0 k1 => by
    rw [e]
    show (if at2 567 (20 * t + k) 568 _ then _ else if rg 567 (20 * t + k) 567 (20 * σ.I 555 19) (20 * σ.I 555 19 + σ.I 573 j) then σ.I 572 (20 * j + (20 * t + k - 20 * σ.I 555 19)) else if at2 567 (20 * t + k) 569 _ then _ else if at2 567 (20 * t + k) 570 _ then _ else if at2 567 (20 * t + k) 571 _ then _ else if at2 567 (20 * t + k) 555 19 then _ else _) = _
    rw [if_neg (fun z => absurd z.1 (by decide)), z1, n1]
    by_cases q : t = l.1 + j ∧ k < s.2.1 j
    · rw [if_pos ⟨rfl, by omega, by omega⟩, if_pos q, q.1, show 20 * j + (20 * (l.1 + j) + k - 20 * (l.1 + j)) = 20 * j + k by omega]
    · rw [if_neg (fun z => q ⟨by have := z.2.1; have := z.2.2; omega, by have := z.2.1; have := z.2.2; omega⟩), if_neg (fun z => absurd z.1 (by decide)), if_neg (fun z => absurd z.1 (by decide)), if_neg (fun z => absurd z.1 (by decide)), if_neg (fun z => absurd z.1 (by decide)), if_neg q]
  refine ⟨c19, ⟨by show 0 ≤ l.1 + (j + 1); omega, by show l.1 + (j + 1) ≤ 250; omega⟩, fun t t0 t1 => ?_⟩
  have t1' : t < l.1 + (j + 1) := t1
  by_cases q : t = l.1 + j
  · have hlt : l.1 ≤ t := by omega
    have ej : t - l.1 = j := by omega
    refine ⟨⟨?_, ?_, ?_⟩, ⟨?_, ?_, ?_⟩, fun k k0 k1 => ?_⟩
    · rw [q8, if_pos q]; show _ = if l.1 ≤ t then s.2.1 (t - l.1) else _; rw [if_pos hlt, ej]
    · show 0 ≤ if l.1 ≤ t then s.2.1 (t - l.1) else _; rw [if_pos hlt, ej]; exact z2.1
    · show (if l.1 ≤ t then s.2.1 (t - l.1) else _) ≤ 20; rw [if_pos hlt, ej]; exact z2.2
    · rw [q9, if_pos q]; show _ = if l.1 ≤ t then st else _; rw [if_pos hlt]
    · rw [q10, if_pos q]; show _ = if l.1 ≤ t then en else _; rw [if_pos hlt]
    · rw [q11, if_pos q]; show _ = if l.1 ≤ t then po else _; rw [if_pos hlt]
    · have k1' : k < (if l.1 ≤ t then s.2.1 (t - l.1) else l.2.1 t) := k1
      rw [if_pos hlt, ej] at k1'
      rw [q7 t k k0 (by omega), if_pos ⟨q, k1'⟩]
      show _ = (if l.1 ≤ t then s.2.2 (t - l.1) else _) k
      rw [if_pos hlt, ej]; exact z3 k k0 k1'
  · obtain ⟨⟨a1, a2, a3⟩, ⟨b1, b2, b3⟩, c1⟩ := ha t t0 (by show t < l.1 + j; omega)
    refine ⟨⟨by rw [q8, if_neg q]; exact a1, a2, a3⟩, ⟨by rw [q9, if_neg q]; exact b1, by rw [q10, if_neg q]; exact b2, by rw [q11, if_neg q]; exact b3⟩, fun k k0 k1 => ?_⟩
    have k1' : k < (if l.1 ≤ t then s.2.1 (t - l.1) else l.2.1 t) := k1
    have a3' : (if l.1 ≤ t then s.2.1 (t - l.1) else l.2.1 t) ≤ 20 := a3
    rw [q7 t k k0 (by omega), if_neg (fun z => q z.1)]
    exact c1 k k0 k1
theorem TLM_ap0 (h : TLM σ l) : TLM σ (apT l s 0 st en po) := by
  obtain ⟨hn, hb, ha⟩ := h
  refine ⟨by show _ = l.1 + 0; omega, ⟨by show 0 ≤ l.1 + 0; omega, by show l.1 + 0 ≤ 250; omega⟩, fun t t0 t1 => ?_⟩
  have t1' : t < l.1 + 0 := t1
  have hlt : ¬ l.1 ≤ t := by omega
  obtain ⟨⟨a1, a2, a3⟩, ⟨b1, b2, b3⟩, c1⟩ := ha t t0 (by omega)
  refine ⟨⟨?_, ?_, ?_⟩, ⟨?_, ?_, ?_⟩, fun k k0 k1 => ?_⟩
  · show _ = if l.1 ≤ t then s.2.1 (t - l.1) else _; rw [if_neg hlt]; exact a1
  · show 0 ≤ if l.1 ≤ t then s.2.1 (t - l.1) else _; rw [if_neg hlt]; exact a2
  · show (if l.1 ≤ t then s.2.1 (t - l.1) else _) ≤ 20; rw [if_neg hlt]; exact a3
  · show _ = if l.1 ≤ t then st else _; rw [if_neg hlt]; exact b1
  · show _ = if l.1 ≤ t then en else _; rw [if_neg hlt]; exact b2
  · show _ = if l.1 ≤ t then po else _; rw [if_neg hlt]; exact b3
  · have k1' : k < (if l.1 ≤ t then s.2.1 (t - l.1) else l.2.1 t) := k1
    rw [if_neg hlt] at k1'
    show _ = (if l.1 ≤ t then s.2.2 (t - l.1) else _) k
    rw [if_neg hlt]; exact c1 k k0 k1'
theorem TLM_fr (h : TLM σ l) (h0 : τ.I 555 19 = σ.I 555 19) (h1 : ∀ c, 567 ≤ c → c ≤ 571 → τ.I c = σ.I c) : TLM τ l := by
  unfold TLM
  rw [h0, h1 568 (by omega) (by omega), h1 569 (by omega) (by omega), h1 570 (by omega) (by omega), h1 571 (by omega) (by omega), h1 567 (by omega) (by omega)]
  exact h
end TLMS
/-- what the reading of a text's tokens writes -/
def wsB (c : Nat) (i : Int) : Prop := (565 ≤ c ∧ c ≤ 574) ∨ (c = 555 ∧ (i = 12 ∨ i = 19 ∨ i = 22))
abbrev KB (σ τ : Sto) : Prop := Ch wsB σ τ
theorem KB_rf {σ : Sto} : KB σ σ := Ch.rf
theorem KB_w {σ τ : Sto} {a : Nat} {i v : Int} (e : τ = σ.wI a i v) (h : wsB a i) : KB σ τ := by subst e; exact Ch.wI Ch.rf h
theorem KB_rd {σ τ : Sto} {F : Nat → Int → Int} (r : τ.R = σ.R) (s : τ.sh = σ.sh) (n : τ.n = σ.n) (e : τ.I = F) (h : ∀ c i, ¬ wsB c i → F c i = σ.I c i) : KB σ τ := ⟨⟨r, s, n⟩, fun c i q => by rw [e]; exact h c i q⟩
theorem KM_of_KB {σ τ : Sto} (h : KB σ τ) : KM σ τ := Ch.mono h (fun c i q => by unfold wsB at q; unfold wsM; omega)
theorem KB_of_KA {σ τ : Sto} (h : KA σ τ) : KB σ τ := Ch.mono h (fun c i q => by unfold wsA at q; unfold wsB; omega)
/-- what is read so far, and what is still to come -/
def TR (ρ τ : Sto) (a : Int) (A : Int → Int) (f to i p : Int) (R : TL) : Prop := ∃ l, TLM τ l ∧ tk ρ a A f to i p l = R
/-- within a word: j of its tokens are taken -/
def TRw (ρ τ : Sto) (a : Int) (A : Int → Int) (f to b e p j : Int) (R : TL) (s : TS) : Prop := ∃ l, TLM τ (apT l s j (b - f) (e - f) p) ∧ 0 ≤ l.1 ∧ l.1 + s.1 ≤ 250 ∧ tk ρ a A f to e (p + 1) (apT l s s.1 (b - f) (e - f) p) = R

theorem sp_X9_analyseRow {E : XE} {d : Nat} {σ : Sto} {x1 : Int} {o2 : Nat} {n2 : Nat} {x3 : Int} {x4 : Int} (hd : 16 ≤ d) (hL : Lay σ) (ho2 : σ.sh o2 = (1, n2)) (p0 : 0 ≤ x1 ∧ x1 < 6) (p1 : 0 ≤ x3 ∧ x3 ≤ x4 ∧ x4 ≤ n2 ∧ x4 ≤ x3 + 30000) (p2 : o2 = 557 ∨ (603 ≤ o2 ∧ o2 ≤ 607) ∨ o2 = 640) (p3 : AC σ) (p4 : bd_0_20 σ 573 300) (p5 : (n2 : Int) ≤ 1000000) : CC E mX9_analyseRow d [aO 555, aI (x1), aO o2, aI (x3), aI (x4)] σ (RV (fun τ => (TLM τ (tk σ x1 (σ.I o2) x3 x4 x3 0 tl0)) ∧ (bd_0_20 τ 573 300) ∧ (KB σ τ))) := by sorry
end
