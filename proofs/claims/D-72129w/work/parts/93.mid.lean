set_option maxRecDepth 1000000
def bad1.cell0 : Cell := { cls := 2, slots := #[.null, .int 0, .int 3, .int 0, .null, .null, .null, .null, .null, .null, .null, .null, .null, .int 0, .null, .int 0, .null, .int 0, .int 0, .null, .null, .int 0, .null, .null], vm := .none }
def bad1.mid (s : State) : State := { s with heap := s.heap.push bad1.cell0, slotsUsed := s.slotsUsed + 24, threads := #[{ frames := .java { method := ⟨2, 5⟩, pc := 217, locals := #[.val (.ref 7)], stack := [.ref 7], locked := none } :: Lib.HandBits.below0 }] }
theorem bad1.name : (bad1.mid start1.about).methodNamed? ⟨"TreeOdds", "<init>", "()V"⟩ = some ⟨2, 5⟩ := by decide +kernel
theorem bad1.runs : (stepsAlone start1.p0.tables start1.e0 1 (bad1.mid start1.about)).status = .running := by decide +kernel
theorem bad1.runs_pc : ((stepsAlone start1.p0.tables start1.e0 1 (bad1.mid start1.about)).topJava?.map (·.pc)) = some 222 := by decide +kernel
theorem bad1.stops : (stepsAlone bad1.p0.tables bad1.e0 1 (bad1.mid bad1.about)).status ≠ .running := by decide +kernel
