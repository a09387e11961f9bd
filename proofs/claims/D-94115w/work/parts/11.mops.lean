/-! THE REFERENCE: its table of operations, but calls -/
def mBG : List (Nat × Nat × se_Op mM) := [(0, 7, opGA 0), (0, 13, opGI 3), (0, 17, opGA 11), (0, 20, opGA 12), (0, 23, opGA 13), (0, 26, opGA 14), (0, 29, opGA 15), (0, 32, opGA 16), (0, 35, opGA 17), (0, 38, opGA 18), (0, 41, opGA 19), (0, 45, opGA 20), (0, 49, opGA 23), (0, 52, opGA 24), (0, 55, opGA 25), (0, 58, opGA 26), (0, 61, opGA 27), (0, 64, opGA 30), (0, 67, opGA 31), (0, 70, opGA 32), (0, 73, opGA 33), (0, 76, opGA 34), (0, 79, opGA 35), (0, 82, opGA 36), (0, 85, opGA 37), (0, 88, opGA 40), (0, 91, opGA 41), (0, 94, opGA 42), (0, 97, opGA 44), (0, 100, opGA 45), (0, 103, opGA 46), (0, 106, opGA 47), (0, 109, opGA 60), (0, 112, opGA 61), (0, 115, opGA 62), (0, 118, opGA 63), (0, 121, opGA 68), (0, 124, opGA 69), (0, 127, opGA 70), (0, 130, opGA 71), (0, 133, opGA 72), (0, 136, opGA 73), (0, 139, opGA 74), (0, 142, opGA 75), (0, 145, opGA 76), (0, 148, opGA 77), (0, 151, opGA 78), (0, 154, opGA 79), (0, 157, opGA 87), (0, 160, opGA 88), (0, 163, opGA 89), (0, 166, opGA 90), (0, 169, opGA 91), (0, 172, opGA 92), (0, 175, opGA 93), (0, 181, opGI 1), (0, 188, opGI 4), (0, 191, opGI 5), (0, 194, opGI 10), (0, 202, opGI 7), (0, 205, opGJ 9), (0, 209, opGI 8), (0, 212, opGI 6), (0, 225, opGI 2), (0, 295, opGI 21), (0, 330, opGI 22), (0, 333, opGI 28), (0, 336, opGI 83), (0, 339, opGI 84), (0, 345, opGI 29), (0, 356, opGI 38), (0, 370, opGI 39), (0, 382, opGI 43), (0, 433, opGI 48), (0, 448, opGI 49), (0, 468, opGJ 50), (0, 471, opGJ 51), (0, 491, opGJ 55), (0, 494, opGJ 56), (0, 497, opGJ 57), (0, 500, opGJ 58), (0, 503, opGJ 59), (0, 506, opGJ 52), (0, 509, opGJ 53), (0, 512, opGJ 54), (0, 533, opGI 64), (0, 536, opGI 65), (0, 543, opGI 66), (0, 546, opGI 67), (0, 569, opGI 80), (0, 572, opGI 85), (0, 575, opGI 86), (0, 590, opGI 82), (0, 605, opGI 81)]
def mBP : List (Nat × Nat × se_Op mM) := [(1, 13, opPI 3), (1, 181, opPI 1), (1, 188, opPI 4), (1, 191, opPI 5), (1, 194, opPZ 10), (1, 202, opPI 7), (1, 205, opPJ 9), (1, 209, opPI 8), (1, 212, opPI 6), (1, 225, opPI 2), (1, 295, opPI 21), (1, 330, opPI 22), (1, 333, opPI 28), (1, 336, opPI 83), (1, 339, opPI 84), (1, 345, opPI 29), (1, 356, opPI 38), (1, 370, opPI 39), (1, 382, opPI 43), (1, 433, opPI 48), (1, 448, opPI 49), (1, 468, opPJ 50), (1, 471, opPJ 51), (1, 491, opPJ 55), (1, 494, opPJ 56), (1, 497, opPJ 57), (1, 500, opPJ 58), (1, 503, opPJ 59), (1, 506, opPJ 52), (1, 509, opPJ 53), (1, 512, opPJ 54), (1, 533, opPI 64), (1, 536, opPI 65), (1, 543, opPI 66), (1, 546, opPI 67), (1, 569, opPI 80), (1, 572, opPI 85), (1, 575, opPI 86), (1, 590, opPI 82), (1, 605, opPI 81)]
def mBC : List (Nat × Nat × se_Op mM) := [(11, 228, opCJ (1937006962)), (11, 230, opCJ (24948)), (11, 232, opCJ (465624852596)), (11, 234, opCJ (6650213)), (11, 236, opCJ (2003395685)), (11, 238, opCJ (1970170228)), (11, 240, opCJ (6709618)), (11, 242, opCJ (474315584357)), (11, 244, opCJ (7300710)), (11, 246, opCJ (6447474)), (11, 248, opCJ (1937007984)), (11, 250, opCJ (474147546227)), (11, 252, opCJ (1818583406)), (11, 254, opCJ (1919905645)), (11, 256, opCJ (1885432178)), (11, 258, opCJ (500136506228)), (11, 260, opCJ (2003330414)), (11, 262, opCJ (1685025907)), (11, 264, opCJ (474080961892)), (11, 266, opCJ (31069369986344819)), (11, 268, opCJ (126926574545779)), (11, 270, opCJ (126913689514611)), (11, 272, opCJ (1953459300)), (11, 274, opCJ (32497656998945640)), (11, 276, opCJ (6385252)), (11, 278, opCJ (28530)), (11, 280, opCJ (7237492)), (11, 391, opCJ (3000000000)), (11, 393, opCJ (2)), (11, 481, opCJ (-1000000000000)), (11, 489, opCJ (10)), (11, 525, opCJ (5)), (11, 527, opCJ (1000)), (10, 348, opCI (100000)), (10, 568, opCI (99999)), (13, 0, opIald), (14, 0, opIast), (15, 0, opZald), (16, 0, opZast), (17, 0, opLald), (18, 0, opLast)]
def mB (k i : Nat) : se_Op mM := if k = 0 then se_tab mBG 0 i else if k = 1 then se_tab mBP 1 i else se_tab mBC k i
section
variable {p : Program} {l : Launch} {e : Env} {R : Room} {s : State} {m : MethodId} {args : Array Value} {below : List Frame} {meth : Method} {c : Code} {nL : Nat} {cc : ByteArray} {ret : Option FieldType} {Q : State → Prop} {g : mG} {H0 : Heap}
theorem mBG_ok (C : se_Cx p s m args meth c cc nL RX2 ret) (hG : mGl g s) (hI : mInj g) : ∀ x ∈ mBG, se_Snd p l e R s m args below meth c Q nL g.1 (mRM g H0) cc (se_ins x.1 x.2.1).1 (se_ins x.1 x.2.1).2 x.2.2 := List.forall_mem_cons.mpr ⟨opGA_ok (by decide) (by decide) rfl q1797 C hG, List.forall_mem_cons.mpr ⟨opGI_ok (by decide) (by decide) rfl q1800 C hG, List.forall_mem_cons.mpr ⟨opGA_ok (by decide) (by decide) rfl q1808 C hG, List.forall_mem_cons.mpr ⟨opGA_ok (by decide) (by decide) rfl q1809 C hG, List.forall_mem_cons.mpr ⟨opGA_ok (by decide) (by decide) rfl q1810 C hG, List.forall_mem_cons.mpr ⟨opGA_ok (by decide) (by decide) rfl q1811 C hG, List.forall_mem_cons.mpr ⟨opGA_ok (by decide) (by decide) rfl q1812 C hG, List.forall_mem_cons.mpr ⟨opGA_ok (by decide) (by decide) rfl q1813 C hG, List.forall_mem_cons.mpr ⟨opGA_ok (by decide) (by decide) rfl q1814 C hG, List.forall_mem_cons.mpr ⟨opGA_ok (by decide) (by decide) rfl q1815 C hG, List.forall_mem_cons.mpr ⟨opGA_ok (by decide) (by decide) rfl q1816 C hG, List.forall_mem_cons.mpr ⟨opGA_ok (by decide) (by decide) rfl q1817 C hG, List.forall_mem_cons.mpr ⟨opGA_ok (by decide) (by decide) rfl q1820 C hG, List.forall_mem_cons.mpr ⟨opGA_ok (by decide) (by decide) rfl q1821 C hG, List.forall_mem_cons.mpr ⟨opGA_ok (by decide) (by decide) rfl q1822 C hG, List.forall_mem_cons.mpr ⟨opGA_ok (by decide) (by decide) rfl q1823 C hG, List.forall_mem_cons.mpr ⟨opGA_ok (by decide) (by decide) rfl q1824 C hG, List.forall_mem_cons.mpr ⟨opGA_ok (by decide) (by decide) rfl q1827 C hG, List.forall_mem_cons.mpr ⟨opGA_ok (by decide) (by decide) rfl q1828 C hG, List.forall_mem_cons.mpr ⟨opGA_ok (by decide) (by decide) rfl q1829 C hG, List.forall_mem_cons.mpr ⟨opGA_ok (by decide) (by decide) rfl q1830 C hG, List.forall_mem_cons.mpr ⟨opGA_ok (by decide) (by decide) rfl q1831 C hG, List.forall_mem_cons.mpr ⟨opGA_ok (by decide) (by decide) rfl q1832 C hG, List.forall_mem_cons.mpr ⟨opGA_ok (by decide) (by decide) rfl q1833 C hG, List.forall_mem_cons.mpr ⟨opGA_ok (by decide) (by decide) rfl q1834 C hG, List.forall_mem_cons.mpr ⟨opGA_ok (by decide) (by decide) rfl q1837 C hG, List.forall_mem_cons.mpr ⟨opGA_ok (by decide) (by decide) rfl q1838 C hG, List.forall_mem_cons.mpr ⟨opGA_ok (by decide) (by decide) rfl q1839 C hG, List.forall_mem_cons.mpr ⟨opGA_ok (by decide) (by decide) rfl q1841 C hG, List.forall_mem_cons.mpr ⟨opGA_ok (by decide) (by decide) rfl q1842 C hG, List.forall_mem_cons.mpr ⟨opGA_ok (by decide) (by decide) rfl q1843 C hG, List.forall_mem_cons.mpr ⟨opGA_ok (by decide) (by decide) rfl q1844 C hG, List.forall_mem_cons.mpr ⟨opGA_ok (by decide) (by decide) rfl q1857 C hG, List.forall_mem_cons.mpr ⟨opGA_ok (by decide) (by decide) rfl q1858 C hG, List.forall_mem_cons.mpr ⟨opGA_ok (by decide) (by decide) rfl q1859 C hG, List.forall_mem_cons.mpr ⟨opGA_ok (by decide) (by decide) rfl q1860 C hG, List.forall_mem_cons.mpr ⟨opGA_ok (by decide) (by decide) rfl q1865 C hG, List.forall_mem_cons.mpr ⟨opGA_ok (by decide) (by decide) rfl q1866 C hG, List.forall_mem_cons.mpr ⟨opGA_ok (by decide) (by decide) rfl q1867 C hG, List.forall_mem_cons.mpr ⟨opGA_ok (by decide) (by decide) rfl q1868 C hG, List.forall_mem_cons.mpr ⟨opGA_ok (by decide) (by decide) rfl q1869 C hG, List.forall_mem_cons.mpr ⟨opGA_ok (by decide) (by decide) rfl q1870 C hG, List.forall_mem_cons.mpr ⟨opGA_ok (by decide) (by decide) rfl q1871 C hG, List.forall_mem_cons.mpr ⟨opGA_ok (by decide) (by decide) rfl q1872 C hG, List.forall_mem_cons.mpr ⟨opGA_ok (by decide) (by decide) rfl q1873 C hG, List.forall_mem_cons.mpr ⟨opGA_ok (by decide) (by decide) rfl q1874 C hG, List.forall_mem_cons.mpr ⟨opGA_ok (by decide) (by decide) rfl q1875 C hG, List.forall_mem_cons.mpr ⟨opGA_ok (by decide) (by decide) rfl q1876 C hG, List.forall_mem_cons.mpr ⟨opGA_ok (by decide) (by decide) rfl q1884 C hG, List.forall_mem_cons.mpr ⟨opGA_ok (by decide) (by decide) rfl q1885 C hG, List.forall_mem_cons.mpr ⟨opGA_ok (by decide) (by decide) rfl q1886 C hG, List.forall_mem_cons.mpr ⟨opGA_ok (by decide) (by decide) rfl q1887 C hG, List.forall_mem_cons.mpr ⟨opGA_ok (by decide) (by decide) rfl q1888 C hG, List.forall_mem_cons.mpr ⟨opGA_ok (by decide) (by decide) rfl q1889 C hG, List.forall_mem_cons.mpr ⟨opGA_ok (by decide) (by decide) rfl q1890 C hG, List.forall_mem_cons.mpr ⟨opGI_ok (by decide) (by decide) rfl q1798 C hG, List.forall_mem_cons.mpr ⟨opGI_ok (by decide) (by decide) rfl q1801 C hG, List.forall_mem_cons.mpr ⟨opGI_ok (by decide) (by decide) rfl q1802 C hG, List.forall_mem_cons.mpr ⟨opGI_ok (by decide) (by decide) rfl q1807 C hG, List.forall_mem_cons.mpr ⟨opGI_ok (by decide) (by decide) rfl q1804 C hG, List.forall_mem_cons.mpr ⟨opGJ_ok (by decide) (by decide) rfl q1806 C hG, List.forall_mem_cons.mpr ⟨opGI_ok (by decide) (by decide) rfl q1805 C hG, List.forall_mem_cons.mpr ⟨opGI_ok (by decide) (by decide) rfl q1803 C hG, List.forall_mem_cons.mpr ⟨opGI_ok (by decide) (by decide) rfl q1799 C hG, List.forall_mem_cons.mpr ⟨opGI_ok (by decide) (by decide) rfl q1818 C hG, List.forall_mem_cons.mpr ⟨opGI_ok (by decide) (by decide) rfl q1819 C hG, List.forall_mem_cons.mpr ⟨opGI_ok (by decide) (by decide) rfl q1825 C hG, List.forall_mem_cons.mpr ⟨opGI_ok (by decide) (by decide) rfl q1880 C hG, List.forall_mem_cons.mpr ⟨opGI_ok (by decide) (by decide) rfl q1881 C hG, List.forall_mem_cons.mpr ⟨opGI_ok (by decide) (by decide) rfl q1826 C hG, List.forall_mem_cons.mpr ⟨opGI_ok (by decide) (by decide) rfl q1835 C hG, List.forall_mem_cons.mpr ⟨opGI_ok (by decide) (by decide) rfl q1836 C hG, List.forall_mem_cons.mpr ⟨opGI_ok (by decide) (by decide) rfl q1840 C hG, List.forall_mem_cons.mpr ⟨opGI_ok (by decide) (by decide) rfl q1845 C hG, List.forall_mem_cons.mpr ⟨opGI_ok (by decide) (by decide) rfl q1846 C hG, List.forall_mem_cons.mpr ⟨opGJ_ok (by decide) (by decide) rfl q1847 C hG, List.forall_mem_cons.mpr ⟨opGJ_ok (by decide) (by decide) rfl q1848 C hG, List.forall_mem_cons.mpr ⟨opGJ_ok (by decide) (by decide) rfl q1852 C hG, List.forall_mem_cons.mpr ⟨opGJ_ok (by decide) (by decide) rfl q1853 C hG, List.forall_mem_cons.mpr ⟨opGJ_ok (by decide) (by decide) rfl q1854 C hG, List.forall_mem_cons.mpr ⟨opGJ_ok (by decide) (by decide) rfl q1855 C hG, List.forall_mem_cons.mpr ⟨opGJ_ok (by decide) (by decide) rfl q1856 C hG, List.forall_mem_cons.mpr ⟨opGJ_ok (by decide) (by decide) rfl q1849 C hG, List.forall_mem_cons.mpr ⟨opGJ_ok (by decide) (by decide) rfl q1850 C hG, List.forall_mem_cons.mpr ⟨opGJ_ok (by decide) (by decide) rfl q1851 C hG, List.forall_mem_cons.mpr ⟨opGI_ok (by decide) (by decide) rfl q1861 C hG, List.forall_mem_cons.mpr ⟨opGI_ok (by decide) (by decide) rfl q1862 C hG, List.forall_mem_cons.mpr ⟨opGI_ok (by decide) (by decide) rfl q1863 C hG, List.forall_mem_cons.mpr ⟨opGI_ok (by decide) (by decide) rfl q1864 C hG, List.forall_mem_cons.mpr ⟨opGI_ok (by decide) (by decide) rfl q1877 C hG, List.forall_mem_cons.mpr ⟨opGI_ok (by decide) (by decide) rfl q1882 C hG, List.forall_mem_cons.mpr ⟨opGI_ok (by decide) (by decide) rfl q1883 C hG, List.forall_mem_cons.mpr ⟨opGI_ok (by decide) (by decide) rfl q1879 C hG, List.forall_mem_cons.mpr ⟨opGI_ok (by decide) (by decide) rfl q1878 C hG, fun _ h => nomatch h⟩⟩⟩⟩⟩⟩⟩⟩⟩⟩⟩⟩⟩⟩⟩⟩⟩⟩⟩⟩⟩⟩⟩⟩⟩⟩⟩⟩⟩⟩⟩⟩⟩⟩⟩⟩⟩⟩⟩⟩⟩⟩⟩⟩⟩⟩⟩⟩⟩⟩⟩⟩⟩⟩⟩⟩⟩⟩⟩⟩⟩⟩⟩⟩⟩⟩⟩⟩⟩⟩⟩⟩⟩⟩⟩⟩⟩⟩⟩⟩⟩⟩⟩⟩⟩⟩⟩⟩⟩⟩⟩⟩⟩⟩
theorem mBP_ok (C : se_Cx p s m args meth c cc nL RX2 ret) (hG : mGl g s) (hI : mInj g) : ∀ x ∈ mBP, se_Snd p l e R s m args below meth c Q nL g.1 (mRM g H0) cc (se_ins x.1 x.2.1).1 (se_ins x.1 x.2.1).2 x.2.2 := List.forall_mem_cons.mpr ⟨opPI_ok (by decide) rfl rfl rfl q1800 C hG hI, List.forall_mem_cons.mpr ⟨opPI_ok (by decide) rfl rfl rfl q1798 C hG hI, List.forall_mem_cons.mpr ⟨opPI_ok (by decide) rfl rfl rfl q1801 C hG hI, List.forall_mem_cons.mpr ⟨opPI_ok (by decide) rfl rfl rfl q1802 C hG hI, List.forall_mem_cons.mpr ⟨opPZ_ok (by decide) rfl rfl rfl q1807 C hG hI, List.forall_mem_cons.mpr ⟨opPI_ok (by decide) rfl rfl rfl q1804 C hG hI, List.forall_mem_cons.mpr ⟨opPJ_ok (by decide) rfl rfl rfl q1806 C hG hI, List.forall_mem_cons.mpr ⟨opPI_ok (by decide) rfl rfl rfl q1805 C hG hI, List.forall_mem_cons.mpr ⟨opPI_ok (by decide) rfl rfl rfl q1803 C hG hI, List.forall_mem_cons.mpr ⟨opPI_ok (by decide) rfl rfl rfl q1799 C hG hI, List.forall_mem_cons.mpr ⟨opPI_ok (by decide) rfl rfl rfl q1818 C hG hI, List.forall_mem_cons.mpr ⟨opPI_ok (by decide) rfl rfl rfl q1819 C hG hI, List.forall_mem_cons.mpr ⟨opPI_ok (by decide) rfl rfl rfl q1825 C hG hI, List.forall_mem_cons.mpr ⟨opPI_ok (by decide) rfl rfl rfl q1880 C hG hI, List.forall_mem_cons.mpr ⟨opPI_ok (by decide) rfl rfl rfl q1881 C hG hI, List.forall_mem_cons.mpr ⟨opPI_ok (by decide) rfl rfl rfl q1826 C hG hI, List.forall_mem_cons.mpr ⟨opPI_ok (by decide) rfl rfl rfl q1835 C hG hI, List.forall_mem_cons.mpr ⟨opPI_ok (by decide) rfl rfl rfl q1836 C hG hI, List.forall_mem_cons.mpr ⟨opPI_ok (by decide) rfl rfl rfl q1840 C hG hI, List.forall_mem_cons.mpr ⟨opPI_ok (by decide) rfl rfl rfl q1845 C hG hI, List.forall_mem_cons.mpr ⟨opPI_ok (by decide) rfl rfl rfl q1846 C hG hI, List.forall_mem_cons.mpr ⟨opPJ_ok (by decide) rfl rfl rfl q1847 C hG hI, List.forall_mem_cons.mpr ⟨opPJ_ok (by decide) rfl rfl rfl q1848 C hG hI, List.forall_mem_cons.mpr ⟨opPJ_ok (by decide) rfl rfl rfl q1852 C hG hI, List.forall_mem_cons.mpr ⟨opPJ_ok (by decide) rfl rfl rfl q1853 C hG hI, List.forall_mem_cons.mpr ⟨opPJ_ok (by decide) rfl rfl rfl q1854 C hG hI, List.forall_mem_cons.mpr ⟨opPJ_ok (by decide) rfl rfl rfl q1855 C hG hI, List.forall_mem_cons.mpr ⟨opPJ_ok (by decide) rfl rfl rfl q1856 C hG hI, List.forall_mem_cons.mpr ⟨opPJ_ok (by decide) rfl rfl rfl q1849 C hG hI, List.forall_mem_cons.mpr ⟨opPJ_ok (by decide) rfl rfl rfl q1850 C hG hI, List.forall_mem_cons.mpr ⟨opPJ_ok (by decide) rfl rfl rfl q1851 C hG hI, List.forall_mem_cons.mpr ⟨opPI_ok (by decide) rfl rfl rfl q1861 C hG hI, List.forall_mem_cons.mpr ⟨opPI_ok (by decide) rfl rfl rfl q1862 C hG hI, List.forall_mem_cons.mpr ⟨opPI_ok (by decide) rfl rfl rfl q1863 C hG hI, List.forall_mem_cons.mpr ⟨opPI_ok (by decide) rfl rfl rfl q1864 C hG hI, List.forall_mem_cons.mpr ⟨opPI_ok (by decide) rfl rfl rfl q1877 C hG hI, List.forall_mem_cons.mpr ⟨opPI_ok (by decide) rfl rfl rfl q1882 C hG hI, List.forall_mem_cons.mpr ⟨opPI_ok (by decide) rfl rfl rfl q1883 C hG hI, List.forall_mem_cons.mpr ⟨opPI_ok (by decide) rfl rfl rfl q1879 C hG hI, List.forall_mem_cons.mpr ⟨opPI_ok (by decide) rfl rfl rfl q1878 C hG hI, fun _ h => nomatch h⟩⟩⟩⟩⟩⟩⟩⟩⟩⟩⟩⟩⟩⟩⟩⟩⟩⟩⟩⟩⟩⟩⟩⟩⟩⟩⟩⟩⟩⟩⟩⟩⟩⟩⟩⟩⟩⟩⟩⟩
theorem mBC_ok (C : se_Cx p s m args meth c cc nL RX2 ret) (hG : mGl g s) (hI : mInj g) : ∀ x ∈ mBC, se_Snd p l e R s m args below meth c Q nL g.1 (mRM g H0) cc (se_ins x.1 x.2.1).1 (se_ins x.1 x.2.1).2 x.2.2 := List.forall_mem_cons.mpr ⟨opCJ_ok q2133 C, List.forall_mem_cons.mpr ⟨opCJ_ok q2142 C, List.forall_mem_cons.mpr ⟨opCJ_ok q2143 C, List.forall_mem_cons.mpr ⟨opCJ_ok q2122 C, List.forall_mem_cons.mpr ⟨opCJ_ok q2144 C, List.forall_mem_cons.mpr ⟨opCJ_ok q2145 C, List.forall_mem_cons.mpr ⟨opCJ_ok q2146 C, List.forall_mem_cons.mpr ⟨opCJ_ok q2127 C, List.forall_mem_cons.mpr ⟨opCJ_ok q2128 C, List.forall_mem_cons.mpr ⟨opCJ_ok q2129 C, List.forall_mem_cons.mpr ⟨opCJ_ok q2130 C, List.forall_mem_cons.mpr ⟨opCJ_ok q2147 C, List.forall_mem_cons.mpr ⟨opCJ_ok q2131 C, List.forall_mem_cons.mpr ⟨opCJ_ok q2132 C, List.forall_mem_cons.mpr ⟨opCJ_ok q2148 C, List.forall_mem_cons.mpr ⟨opCJ_ok q2149 C, List.forall_mem_cons.mpr ⟨opCJ_ok q2150 C, List.forall_mem_cons.mpr ⟨opCJ_ok q2151 C, List.forall_mem_cons.mpr ⟨opCJ_ok q2152 C, List.forall_mem_cons.mpr ⟨opCJ_ok q2153 C, List.forall_mem_cons.mpr ⟨opCJ_ok q2154 C, List.forall_mem_cons.mpr ⟨opCJ_ok q2155 C, List.forall_mem_cons.mpr ⟨opCJ_ok q2156 C, List.forall_mem_cons.mpr ⟨opCJ_ok q2157 C, List.forall_mem_cons.mpr ⟨opCJ_ok q2158 C, List.forall_mem_cons.mpr ⟨opCJ_ok q2159 C, List.forall_mem_cons.mpr ⟨opCJ_ok q2160 C, List.forall_mem_cons.mpr ⟨opCJ_ok q2275 C, List.forall_mem_cons.mpr ⟨opCJ_ok q2276 C, List.forall_mem_cons.mpr ⟨opCJ_ok q2349 C, List.forall_mem_cons.mpr ⟨opCJ_ok q2385 C, List.forall_mem_cons.mpr ⟨opCJ_ok q2394 C, List.forall_mem_cons.mpr ⟨opCJ_ok q2403 C, List.forall_mem_cons.mpr ⟨opCIw_ok q2205 C, List.forall_mem_cons.mpr ⟨opCIw_ok q2462 C, List.forall_mem_cons.mpr ⟨opIald_ok C hG, List.forall_mem_cons.mpr ⟨opIast_ok C hG hI, List.forall_mem_cons.mpr ⟨opZald_ok C hG, List.forall_mem_cons.mpr ⟨opZast_ok C hG hI, List.forall_mem_cons.mpr ⟨opLald_ok C hG, List.forall_mem_cons.mpr ⟨opLast_ok C hG hI, fun _ h => nomatch h⟩⟩⟩⟩⟩⟩⟩⟩⟩⟩⟩⟩⟩⟩⟩⟩⟩⟩⟩⟩⟩⟩⟩⟩⟩⟩⟩⟩⟩⟩⟩⟩⟩⟩⟩⟩⟩⟩⟩⟩⟩
theorem mB_ok (C : se_Cx p s m args meth c cc nL RX2 ret) (hG : mGl g s) (hI : mInj g) (k i : Nat) : se_Snd p l e R s m args below meth c Q nL g.1 (mRM g H0) cc (se_ins k i).1 (se_ins k i).2 (mB k i) := by
  unfold mB
  split
  · rename_i h; subst h; exact se_tab_ok _ (mBG_ok C hG hI) 0 i
  · split
    · rename_i h; subst h; exact se_tab_ok _ (mBP_ok C hG hI) 1 i
    · exact se_tab_ok _ (mBC_ok C hG hI) k i
end
theorem mB_0_7 : mB 0 7 = opGA 0 := rfl
theorem mB_0_13 : mB 0 13 = opGI 3 := rfl
theorem mB_0_17 : mB 0 17 = opGA 11 := rfl
theorem mB_0_20 : mB 0 20 = opGA 12 := rfl
theorem mB_0_23 : mB 0 23 = opGA 13 := rfl
theorem mB_0_26 : mB 0 26 = opGA 14 := rfl
theorem mB_0_29 : mB 0 29 = opGA 15 := rfl
theorem mB_0_32 : mB 0 32 = opGA 16 := rfl
theorem mB_0_35 : mB 0 35 = opGA 17 := rfl
theorem mB_0_38 : mB 0 38 = opGA 18 := rfl
theorem mB_0_41 : mB 0 41 = opGA 19 := rfl
theorem mB_0_45 : mB 0 45 = opGA 20 := rfl
theorem mB_0_49 : mB 0 49 = opGA 23 := rfl
theorem mB_0_52 : mB 0 52 = opGA 24 := rfl
theorem mB_0_55 : mB 0 55 = opGA 25 := rfl
theorem mB_0_58 : mB 0 58 = opGA 26 := rfl
theorem mB_0_61 : mB 0 61 = opGA 27 := rfl
theorem mB_0_64 : mB 0 64 = opGA 30 := rfl
theorem mB_0_67 : mB 0 67 = opGA 31 := rfl
theorem mB_0_70 : mB 0 70 = opGA 32 := rfl
theorem mB_0_73 : mB 0 73 = opGA 33 := rfl
theorem mB_0_76 : mB 0 76 = opGA 34 := rfl
theorem mB_0_79 : mB 0 79 = opGA 35 := rfl
theorem mB_0_82 : mB 0 82 = opGA 36 := rfl
theorem mB_0_85 : mB 0 85 = opGA 37 := rfl
theorem mB_0_88 : mB 0 88 = opGA 40 := rfl
theorem mB_0_91 : mB 0 91 = opGA 41 := rfl
theorem mB_0_94 : mB 0 94 = opGA 42 := rfl
theorem mB_0_97 : mB 0 97 = opGA 44 := rfl
theorem mB_0_100 : mB 0 100 = opGA 45 := rfl
theorem mB_0_103 : mB 0 103 = opGA 46 := rfl
theorem mB_0_106 : mB 0 106 = opGA 47 := rfl
theorem mB_0_109 : mB 0 109 = opGA 60 := rfl
theorem mB_0_112 : mB 0 112 = opGA 61 := rfl
theorem mB_0_115 : mB 0 115 = opGA 62 := rfl
theorem mB_0_118 : mB 0 118 = opGA 63 := rfl
theorem mB_0_121 : mB 0 121 = opGA 68 := rfl
theorem mB_0_124 : mB 0 124 = opGA 69 := rfl
theorem mB_0_127 : mB 0 127 = opGA 70 := rfl
theorem mB_0_130 : mB 0 130 = opGA 71 := rfl
theorem mB_0_133 : mB 0 133 = opGA 72 := rfl
theorem mB_0_136 : mB 0 136 = opGA 73 := rfl
theorem mB_0_139 : mB 0 139 = opGA 74 := rfl
theorem mB_0_142 : mB 0 142 = opGA 75 := rfl
theorem mB_0_145 : mB 0 145 = opGA 76 := rfl
theorem mB_0_148 : mB 0 148 = opGA 77 := rfl
theorem mB_0_151 : mB 0 151 = opGA 78 := rfl
theorem mB_0_154 : mB 0 154 = opGA 79 := rfl
theorem mB_0_157 : mB 0 157 = opGA 87 := rfl
theorem mB_0_160 : mB 0 160 = opGA 88 := rfl
theorem mB_0_163 : mB 0 163 = opGA 89 := rfl
theorem mB_0_166 : mB 0 166 = opGA 90 := rfl
theorem mB_0_169 : mB 0 169 = opGA 91 := rfl
theorem mB_0_172 : mB 0 172 = opGA 92 := rfl
theorem mB_0_175 : mB 0 175 = opGA 93 := rfl
theorem mB_0_181 : mB 0 181 = opGI 1 := rfl
theorem mB_0_188 : mB 0 188 = opGI 4 := rfl
theorem mB_0_191 : mB 0 191 = opGI 5 := rfl
theorem mB_0_194 : mB 0 194 = opGI 10 := rfl
theorem mB_0_202 : mB 0 202 = opGI 7 := rfl
theorem mB_0_205 : mB 0 205 = opGJ 9 := rfl
theorem mB_0_209 : mB 0 209 = opGI 8 := rfl
theorem mB_0_212 : mB 0 212 = opGI 6 := rfl
theorem mB_0_225 : mB 0 225 = opGI 2 := rfl
theorem mB_0_295 : mB 0 295 = opGI 21 := rfl
theorem mB_0_330 : mB 0 330 = opGI 22 := rfl
theorem mB_0_333 : mB 0 333 = opGI 28 := rfl
theorem mB_0_336 : mB 0 336 = opGI 83 := rfl
theorem mB_0_339 : mB 0 339 = opGI 84 := rfl
theorem mB_0_345 : mB 0 345 = opGI 29 := rfl
theorem mB_0_356 : mB 0 356 = opGI 38 := rfl
theorem mB_0_370 : mB 0 370 = opGI 39 := rfl
theorem mB_0_382 : mB 0 382 = opGI 43 := rfl
theorem mB_0_433 : mB 0 433 = opGI 48 := rfl
theorem mB_0_448 : mB 0 448 = opGI 49 := rfl
theorem mB_0_468 : mB 0 468 = opGJ 50 := rfl
theorem mB_0_471 : mB 0 471 = opGJ 51 := rfl
theorem mB_0_491 : mB 0 491 = opGJ 55 := rfl
theorem mB_0_494 : mB 0 494 = opGJ 56 := rfl
theorem mB_0_497 : mB 0 497 = opGJ 57 := rfl
theorem mB_0_500 : mB 0 500 = opGJ 58 := rfl
theorem mB_0_503 : mB 0 503 = opGJ 59 := rfl
theorem mB_0_506 : mB 0 506 = opGJ 52 := rfl
theorem mB_0_509 : mB 0 509 = opGJ 53 := rfl
theorem mB_0_512 : mB 0 512 = opGJ 54 := rfl
theorem mB_0_533 : mB 0 533 = opGI 64 := rfl
theorem mB_0_536 : mB 0 536 = opGI 65 := rfl
theorem mB_0_543 : mB 0 543 = opGI 66 := rfl
theorem mB_0_546 : mB 0 546 = opGI 67 := rfl
theorem mB_0_569 : mB 0 569 = opGI 80 := rfl
theorem mB_0_572 : mB 0 572 = opGI 85 := rfl
theorem mB_0_575 : mB 0 575 = opGI 86 := rfl
theorem mB_0_590 : mB 0 590 = opGI 82 := rfl
theorem mB_0_605 : mB 0 605 = opGI 81 := rfl
theorem mB_1_13 : mB 1 13 = opPI 3 := rfl
theorem mB_1_181 : mB 1 181 = opPI 1 := rfl
theorem mB_1_188 : mB 1 188 = opPI 4 := rfl
theorem mB_1_191 : mB 1 191 = opPI 5 := rfl
theorem mB_1_194 : mB 1 194 = opPZ 10 := rfl
theorem mB_1_202 : mB 1 202 = opPI 7 := rfl
theorem mB_1_205 : mB 1 205 = opPJ 9 := rfl
theorem mB_1_209 : mB 1 209 = opPI 8 := rfl
theorem mB_1_212 : mB 1 212 = opPI 6 := rfl
theorem mB_1_225 : mB 1 225 = opPI 2 := rfl
theorem mB_1_295 : mB 1 295 = opPI 21 := rfl
theorem mB_1_330 : mB 1 330 = opPI 22 := rfl
theorem mB_1_333 : mB 1 333 = opPI 28 := rfl
theorem mB_1_336 : mB 1 336 = opPI 83 := rfl
theorem mB_1_339 : mB 1 339 = opPI 84 := rfl
theorem mB_1_345 : mB 1 345 = opPI 29 := rfl
theorem mB_1_356 : mB 1 356 = opPI 38 := rfl
theorem mB_1_370 : mB 1 370 = opPI 39 := rfl
theorem mB_1_382 : mB 1 382 = opPI 43 := rfl
theorem mB_1_433 : mB 1 433 = opPI 48 := rfl
theorem mB_1_448 : mB 1 448 = opPI 49 := rfl
theorem mB_1_468 : mB 1 468 = opPJ 50 := rfl
theorem mB_1_471 : mB 1 471 = opPJ 51 := rfl
theorem mB_1_491 : mB 1 491 = opPJ 55 := rfl
theorem mB_1_494 : mB 1 494 = opPJ 56 := rfl
theorem mB_1_497 : mB 1 497 = opPJ 57 := rfl
theorem mB_1_500 : mB 1 500 = opPJ 58 := rfl
theorem mB_1_503 : mB 1 503 = opPJ 59 := rfl
theorem mB_1_506 : mB 1 506 = opPJ 52 := rfl
theorem mB_1_509 : mB 1 509 = opPJ 53 := rfl
theorem mB_1_512 : mB 1 512 = opPJ 54 := rfl
theorem mB_1_533 : mB 1 533 = opPI 64 := rfl
theorem mB_1_536 : mB 1 536 = opPI 65 := rfl
theorem mB_1_543 : mB 1 543 = opPI 66 := rfl
theorem mB_1_546 : mB 1 546 = opPI 67 := rfl
theorem mB_1_569 : mB 1 569 = opPI 80 := rfl
theorem mB_1_572 : mB 1 572 = opPI 85 := rfl
theorem mB_1_575 : mB 1 575 = opPI 86 := rfl
theorem mB_1_590 : mB 1 590 = opPI 82 := rfl
theorem mB_1_605 : mB 1 605 = opPI 81 := rfl
theorem mB_11_228 : mB 11 228 = opCJ (1937006962) := rfl
theorem mB_11_230 : mB 11 230 = opCJ (24948) := rfl
theorem mB_11_232 : mB 11 232 = opCJ (465624852596) := rfl
theorem mB_11_234 : mB 11 234 = opCJ (6650213) := rfl
theorem mB_11_236 : mB 11 236 = opCJ (2003395685) := rfl
theorem mB_11_238 : mB 11 238 = opCJ (1970170228) := rfl
theorem mB_11_240 : mB 11 240 = opCJ (6709618) := rfl
theorem mB_11_242 : mB 11 242 = opCJ (474315584357) := rfl
theorem mB_11_244 : mB 11 244 = opCJ (7300710) := rfl
theorem mB_11_246 : mB 11 246 = opCJ (6447474) := rfl
theorem mB_11_248 : mB 11 248 = opCJ (1937007984) := rfl
theorem mB_11_250 : mB 11 250 = opCJ (474147546227) := rfl
theorem mB_11_252 : mB 11 252 = opCJ (1818583406) := rfl
theorem mB_11_254 : mB 11 254 = opCJ (1919905645) := rfl
theorem mB_11_256 : mB 11 256 = opCJ (1885432178) := rfl
theorem mB_11_258 : mB 11 258 = opCJ (500136506228) := rfl
theorem mB_11_260 : mB 11 260 = opCJ (2003330414) := rfl
theorem mB_11_262 : mB 11 262 = opCJ (1685025907) := rfl
theorem mB_11_264 : mB 11 264 = opCJ (474080961892) := rfl
theorem mB_11_266 : mB 11 266 = opCJ (31069369986344819) := rfl
theorem mB_11_268 : mB 11 268 = opCJ (126926574545779) := rfl
theorem mB_11_270 : mB 11 270 = opCJ (126913689514611) := rfl
theorem mB_11_272 : mB 11 272 = opCJ (1953459300) := rfl
theorem mB_11_274 : mB 11 274 = opCJ (32497656998945640) := rfl
theorem mB_11_276 : mB 11 276 = opCJ (6385252) := rfl
theorem mB_11_278 : mB 11 278 = opCJ (28530) := rfl
theorem mB_11_280 : mB 11 280 = opCJ (7237492) := rfl
theorem mB_11_391 : mB 11 391 = opCJ (3000000000) := rfl
theorem mB_11_393 : mB 11 393 = opCJ (2) := rfl
theorem mB_11_481 : mB 11 481 = opCJ (-1000000000000) := rfl
theorem mB_11_489 : mB 11 489 = opCJ (10) := rfl
theorem mB_11_525 : mB 11 525 = opCJ (5) := rfl
theorem mB_11_527 : mB 11 527 = opCJ (1000) := rfl
theorem mB_10_348 : mB 10 348 = opCI (100000) := rfl
theorem mB_10_568 : mB 10 568 = opCI (99999) := rfl
theorem mB_13_0 : mB 13 0 = opIald := rfl
theorem mB_14_0 : mB 14 0 = opIast := rfl
theorem mB_15_0 : mB 15 0 = opZald := rfl
theorem mB_16_0 : mB 16 0 = opZast := rfl
theorem mB_17_0 : mB 17 0 = opLald := rfl
theorem mB_18_0 : mB 18 0 = opLast := rfl
theorem opGI_r {k : Nat} {r : List Value} {M : mM} {K : List Value → mM → Prop} {X : Nat → mM → Prop} : opGI k (.ref 0 :: r) M K X = K (.int (fI M k) :: r) M := rfl
theorem opGJ_r {k : Nat} {r : List Value} {M : mM} {K : List Value → mM → Prop} {X : Nat → mM → Prop} : opGJ k (.ref 0 :: r) M K X = K (.long (fJ M k) :: r) M := rfl
theorem opGA_r {k : Nat} {r : List Value} {M : mM} {K : List Value → mM → Prop} {X : Nat → mM → Prop} : opGA k (.ref 0 :: r) M K X = K (.ref (k + 1) :: r) M := rfl
theorem opPI_r {k : Nat} {x : Int32} {r : List Value} {M : mM} {K : List Value → mM → Prop} {X : Nat → mM → Prop} : opPI k (.int x :: .ref 0 :: r) M K X = K r (uI M k x) := rfl
theorem opPZ_r {k : Nat} {x : Int32} {r : List Value} {M : mM} {K : List Value → mM → Prop} {X : Nat → mM → Prop} : opPZ k (.int x :: .ref 0 :: r) M K X = ((x = 0 ∨ x = 1) ∧ K r (uI M k x)) := rfl
theorem opPJ_r {k : Nat} {x : Int64} {r : List Value} {M : mM} {K : List Value → mM → Prop} {X : Nat → mM → Prop} : opPJ k (.long x :: .ref 0 :: r) M K X = K r (uJ M k x) := rfl
theorem opCI_r {v : Int32} {st : List Value} {M : mM} {K : List Value → mM → Prop} {X : Nat → mM → Prop} : opCI v st M K X = K (.int v :: st) M := rfl
theorem opCJ_r {v : Int64} {st : List Value} {M : mM} {K : List Value → mM → Prop} {X : Nat → mM → Prop} : opCJ v st M K X = K (.long v :: st) M := rfl
theorem opIald_0 {i : Int32} {r : List Value} {M : mM} {K : List Value → mM → Prop} {X : Nat → mM → Prop} : opIald (.int i :: .ref 1 :: r) M K X = (vp_in i 1500 ∧ K (.int (fA M 0 i.toNatClampNeg) :: r) M) := propext ⟨fun h => h.2, fun h => ⟨by decide, h⟩⟩
theorem opIast_0 {x i : Int32} {r : List Value} {M : mM} {K : List Value → mM → Prop} {X : Nat → mM → Prop} : opIast (.int x :: .int i :: .ref 1 :: r) M K X = (vp_in i 1500 ∧ K r (uA M 0 i.toNatClampNeg x)) := propext ⟨fun h => h.2, fun h => ⟨by decide, h⟩⟩
theorem opIald_11 {i : Int32} {r : List Value} {M : mM} {K : List Value → mM → Prop} {X : Nat → mM → Prop} : opIald (.int i :: .ref 12 :: r) M K X = (vp_in i 12 ∧ K (.int (fA M 11 i.toNatClampNeg) :: r) M) := propext ⟨fun h => h.2, fun h => ⟨by decide, h⟩⟩
theorem opIast_11 {x i : Int32} {r : List Value} {M : mM} {K : List Value → mM → Prop} {X : Nat → mM → Prop} : opIast (.int x :: .int i :: .ref 12 :: r) M K X = (vp_in i 12 ∧ K r (uA M 11 i.toNatClampNeg x)) := propext ⟨fun h => h.2, fun h => ⟨by decide, h⟩⟩
theorem opIald_12 {i : Int32} {r : List Value} {M : mM} {K : List Value → mM → Prop} {X : Nat → mM → Prop} : opIald (.int i :: .ref 13 :: r) M K X = (vp_in i 12 ∧ K (.int (fA M 12 i.toNatClampNeg) :: r) M) := propext ⟨fun h => h.2, fun h => ⟨by decide, h⟩⟩
theorem opIast_12 {x i : Int32} {r : List Value} {M : mM} {K : List Value → mM → Prop} {X : Nat → mM → Prop} : opIast (.int x :: .int i :: .ref 13 :: r) M K X = (vp_in i 12 ∧ K r (uA M 12 i.toNatClampNeg x)) := propext ⟨fun h => h.2, fun h => ⟨by decide, h⟩⟩
theorem opIald_13 {i : Int32} {r : List Value} {M : mM} {K : List Value → mM → Prop} {X : Nat → mM → Prop} : opIald (.int i :: .ref 14 :: r) M K X = (vp_in i 32 ∧ K (.int (fA M 13 i.toNatClampNeg) :: r) M) := propext ⟨fun h => h.2, fun h => ⟨by decide, h⟩⟩
theorem opIast_13 {x i : Int32} {r : List Value} {M : mM} {K : List Value → mM → Prop} {X : Nat → mM → Prop} : opIast (.int x :: .int i :: .ref 14 :: r) M K X = (vp_in i 32 ∧ K r (uA M 13 i.toNatClampNeg x)) := propext ⟨fun h => h.2, fun h => ⟨by decide, h⟩⟩
theorem opIald_14 {i : Int32} {r : List Value} {M : mM} {K : List Value → mM → Prop} {X : Nat → mM → Prop} : opIald (.int i :: .ref 15 :: r) M K X = (vp_in i 32 ∧ K (.int (fA M 14 i.toNatClampNeg) :: r) M) := propext ⟨fun h => h.2, fun h => ⟨by decide, h⟩⟩
theorem opIast_14 {x i : Int32} {r : List Value} {M : mM} {K : List Value → mM → Prop} {X : Nat → mM → Prop} : opIast (.int x :: .int i :: .ref 15 :: r) M K X = (vp_in i 32 ∧ K r (uA M 14 i.toNatClampNeg x)) := propext ⟨fun h => h.2, fun h => ⟨by decide, h⟩⟩
theorem opIald_15 {i : Int32} {r : List Value} {M : mM} {K : List Value → mM → Prop} {X : Nat → mM → Prop} : opIald (.int i :: .ref 16 :: r) M K X = (vp_in i 32 ∧ K (.int (fA M 15 i.toNatClampNeg) :: r) M) := propext ⟨fun h => h.2, fun h => ⟨by decide, h⟩⟩
theorem opIast_15 {x i : Int32} {r : List Value} {M : mM} {K : List Value → mM → Prop} {X : Nat → mM → Prop} : opIast (.int x :: .int i :: .ref 16 :: r) M K X = (vp_in i 32 ∧ K r (uA M 15 i.toNatClampNeg x)) := propext ⟨fun h => h.2, fun h => ⟨by decide, h⟩⟩
theorem opIald_16 {i : Int32} {r : List Value} {M : mM} {K : List Value → mM → Prop} {X : Nat → mM → Prop} : opIald (.int i :: .ref 17 :: r) M K X = (vp_in i 32 ∧ K (.int (fA M 16 i.toNatClampNeg) :: r) M) := propext ⟨fun h => h.2, fun h => ⟨by decide, h⟩⟩
theorem opIast_16 {x i : Int32} {r : List Value} {M : mM} {K : List Value → mM → Prop} {X : Nat → mM → Prop} : opIast (.int x :: .int i :: .ref 17 :: r) M K X = (vp_in i 32 ∧ K r (uA M 16 i.toNatClampNeg x)) := propext ⟨fun h => h.2, fun h => ⟨by decide, h⟩⟩
theorem opIald_17 {i : Int32} {r : List Value} {M : mM} {K : List Value → mM → Prop} {X : Nat → mM → Prop} : opIald (.int i :: .ref 18 :: r) M K X = (vp_in i 32 ∧ K (.int (fA M 17 i.toNatClampNeg) :: r) M) := propext ⟨fun h => h.2, fun h => ⟨by decide, h⟩⟩
theorem opIast_17 {x i : Int32} {r : List Value} {M : mM} {K : List Value → mM → Prop} {X : Nat → mM → Prop} : opIast (.int x :: .int i :: .ref 18 :: r) M K X = (vp_in i 32 ∧ K r (uA M 17 i.toNatClampNeg x)) := propext ⟨fun h => h.2, fun h => ⟨by decide, h⟩⟩
theorem opIald_18 {i : Int32} {r : List Value} {M : mM} {K : List Value → mM → Prop} {X : Nat → mM → Prop} : opIald (.int i :: .ref 19 :: r) M K X = (vp_in i 32 ∧ K (.int (fA M 18 i.toNatClampNeg) :: r) M) := propext ⟨fun h => h.2, fun h => ⟨by decide, h⟩⟩
theorem opIast_18 {x i : Int32} {r : List Value} {M : mM} {K : List Value → mM → Prop} {X : Nat → mM → Prop} : opIast (.int x :: .int i :: .ref 19 :: r) M K X = (vp_in i 32 ∧ K r (uA M 18 i.toNatClampNeg x)) := propext ⟨fun h => h.2, fun h => ⟨by decide, h⟩⟩
theorem opZald_19 {i : Int32} {r : List Value} {M : mM} {K : List Value → mM → Prop} {X : Nat → mM → Prop} : opZald (.int i :: .ref 20 :: r) M K X = (vp_in i 12 ∧ K (.int (fA M 19 i.toNatClampNeg) :: r) M) := propext ⟨fun h => h.2, fun h => ⟨by decide, h⟩⟩
theorem opZast_19 {x i : Int32} {r : List Value} {M : mM} {K : List Value → mM → Prop} {X : Nat → mM → Prop} : opZast (.int x :: .int i :: .ref 20 :: r) M K X = ((x = 0 ∨ x = 1) ∧ vp_in i 12 ∧ K r (uA M 19 i.toNatClampNeg x)) := propext ⟨fun h => h.2, fun h => ⟨by decide, h⟩⟩
theorem opLald_20 {i : Int32} {r : List Value} {M : mM} {K : List Value → mM → Prop} {X : Nat → mM → Prop} : opLald (.int i :: .ref 21 :: r) M K X = (vp_in i 32 ∧ K (.long (fN M i.toNatClampNeg) :: r) M) := propext ⟨fun h => h.2, fun h => ⟨by decide, h⟩⟩
theorem opLast_20 {x : Int64} {i : Int32} {r : List Value} {M : mM} {K : List Value → mM → Prop} {X : Nat → mM → Prop} : opLast (.long x :: .int i :: .ref 21 :: r) M K X = (vp_in i 32 ∧ K r (uN M i.toNatClampNeg x)) := propext ⟨fun h => h.2, fun h => ⟨by decide, h⟩⟩
theorem opIald_23 {i : Int32} {r : List Value} {M : mM} {K : List Value → mM → Prop} {X : Nat → mM → Prop} : opIald (.int i :: .ref 24 :: r) M K X = (vp_in i 3072 ∧ K (.int (fA M 23 i.toNatClampNeg) :: r) M) := propext ⟨fun h => h.2, fun h => ⟨by decide, h⟩⟩
theorem opIast_23 {x i : Int32} {r : List Value} {M : mM} {K : List Value → mM → Prop} {X : Nat → mM → Prop} : opIast (.int x :: .int i :: .ref 24 :: r) M K X = (vp_in i 3072 ∧ K r (uA M 23 i.toNatClampNeg x)) := propext ⟨fun h => h.2, fun h => ⟨by decide, h⟩⟩
theorem opIald_24 {i : Int32} {r : List Value} {M : mM} {K : List Value → mM → Prop} {X : Nat → mM → Prop} : opIald (.int i :: .ref 25 :: r) M K X = (vp_in i 256 ∧ K (.int (fA M 24 i.toNatClampNeg) :: r) M) := propext ⟨fun h => h.2, fun h => ⟨by decide, h⟩⟩
theorem opIast_24 {x i : Int32} {r : List Value} {M : mM} {K : List Value → mM → Prop} {X : Nat → mM → Prop} : opIast (.int x :: .int i :: .ref 25 :: r) M K X = (vp_in i 256 ∧ K r (uA M 24 i.toNatClampNeg x)) := propext ⟨fun h => h.2, fun h => ⟨by decide, h⟩⟩
theorem opIald_25 {i : Int32} {r : List Value} {M : mM} {K : List Value → mM → Prop} {X : Nat → mM → Prop} : opIald (.int i :: .ref 26 :: r) M K X = (vp_in i 12 ∧ K (.int (fA M 25 i.toNatClampNeg) :: r) M) := propext ⟨fun h => h.2, fun h => ⟨by decide, h⟩⟩
theorem opIast_25 {x i : Int32} {r : List Value} {M : mM} {K : List Value → mM → Prop} {X : Nat → mM → Prop} : opIast (.int x :: .int i :: .ref 26 :: r) M K X = (vp_in i 12 ∧ K r (uA M 25 i.toNatClampNeg x)) := propext ⟨fun h => h.2, fun h => ⟨by decide, h⟩⟩
theorem opIald_26 {i : Int32} {r : List Value} {M : mM} {K : List Value → mM → Prop} {X : Nat → mM → Prop} : opIald (.int i :: .ref 27 :: r) M K X = (vp_in i 12 ∧ K (.int (fA M 26 i.toNatClampNeg) :: r) M) := propext ⟨fun h => h.2, fun h => ⟨by decide, h⟩⟩
theorem opIast_26 {x i : Int32} {r : List Value} {M : mM} {K : List Value → mM → Prop} {X : Nat → mM → Prop} : opIast (.int x :: .int i :: .ref 27 :: r) M K X = (vp_in i 12 ∧ K r (uA M 26 i.toNatClampNeg x)) := propext ⟨fun h => h.2, fun h => ⟨by decide, h⟩⟩
theorem opZald_27 {i : Int32} {r : List Value} {M : mM} {K : List Value → mM → Prop} {X : Nat → mM → Prop} : opZald (.int i :: .ref 28 :: r) M K X = (vp_in i 256 ∧ K (.int (fA M 27 i.toNatClampNeg) :: r) M) := propext ⟨fun h => h.2, fun h => ⟨by decide, h⟩⟩
theorem opZast_27 {x i : Int32} {r : List Value} {M : mM} {K : List Value → mM → Prop} {X : Nat → mM → Prop} : opZast (.int x :: .int i :: .ref 28 :: r) M K X = ((x = 0 ∨ x = 1) ∧ vp_in i 256 ∧ K r (uA M 27 i.toNatClampNeg x)) := propext ⟨fun h => h.2, fun h => ⟨by decide, h⟩⟩
theorem opIald_30 {i : Int32} {r : List Value} {M : mM} {K : List Value → mM → Prop} {X : Nat → mM → Prop} : opIald (.int i :: .ref 31 :: r) M K X = (vp_in i 140 ∧ K (.int (fA M 30 i.toNatClampNeg) :: r) M) := propext ⟨fun h => h.2, fun h => ⟨by decide, h⟩⟩
theorem opIast_30 {x i : Int32} {r : List Value} {M : mM} {K : List Value → mM → Prop} {X : Nat → mM → Prop} : opIast (.int x :: .int i :: .ref 31 :: r) M K X = (vp_in i 140 ∧ K r (uA M 30 i.toNatClampNeg x)) := propext ⟨fun h => h.2, fun h => ⟨by decide, h⟩⟩
theorem opIald_31 {i : Int32} {r : List Value} {M : mM} {K : List Value → mM → Prop} {X : Nat → mM → Prop} : opIald (.int i :: .ref 32 :: r) M K X = (vp_in i 140 ∧ K (.int (fA M 31 i.toNatClampNeg) :: r) M) := propext ⟨fun h => h.2, fun h => ⟨by decide, h⟩⟩
theorem opIast_31 {x i : Int32} {r : List Value} {M : mM} {K : List Value → mM → Prop} {X : Nat → mM → Prop} : opIast (.int x :: .int i :: .ref 32 :: r) M K X = (vp_in i 140 ∧ K r (uA M 31 i.toNatClampNeg x)) := propext ⟨fun h => h.2, fun h => ⟨by decide, h⟩⟩
theorem opIald_32 {i : Int32} {r : List Value} {M : mM} {K : List Value → mM → Prop} {X : Nat → mM → Prop} : opIald (.int i :: .ref 33 :: r) M K X = (vp_in i 140 ∧ K (.int (fA M 32 i.toNatClampNeg) :: r) M) := propext ⟨fun h => h.2, fun h => ⟨by decide, h⟩⟩
theorem opIast_32 {x i : Int32} {r : List Value} {M : mM} {K : List Value → mM → Prop} {X : Nat → mM → Prop} : opIast (.int x :: .int i :: .ref 33 :: r) M K X = (vp_in i 140 ∧ K r (uA M 32 i.toNatClampNeg x)) := propext ⟨fun h => h.2, fun h => ⟨by decide, h⟩⟩
theorem opIald_33 {i : Int32} {r : List Value} {M : mM} {K : List Value → mM → Prop} {X : Nat → mM → Prop} : opIald (.int i :: .ref 34 :: r) M K X = (vp_in i 140 ∧ K (.int (fA M 33 i.toNatClampNeg) :: r) M) := propext ⟨fun h => h.2, fun h => ⟨by decide, h⟩⟩
theorem opIast_33 {x i : Int32} {r : List Value} {M : mM} {K : List Value → mM → Prop} {X : Nat → mM → Prop} : opIast (.int x :: .int i :: .ref 34 :: r) M K X = (vp_in i 140 ∧ K r (uA M 33 i.toNatClampNeg x)) := propext ⟨fun h => h.2, fun h => ⟨by decide, h⟩⟩
theorem opIald_34 {i : Int32} {r : List Value} {M : mM} {K : List Value → mM → Prop} {X : Nat → mM → Prop} : opIald (.int i :: .ref 35 :: r) M K X = (vp_in i 12 ∧ K (.int (fA M 34 i.toNatClampNeg) :: r) M) := propext ⟨fun h => h.2, fun h => ⟨by decide, h⟩⟩
theorem opIast_34 {x i : Int32} {r : List Value} {M : mM} {K : List Value → mM → Prop} {X : Nat → mM → Prop} : opIast (.int x :: .int i :: .ref 35 :: r) M K X = (vp_in i 12 ∧ K r (uA M 34 i.toNatClampNeg x)) := propext ⟨fun h => h.2, fun h => ⟨by decide, h⟩⟩
theorem opIald_35 {i : Int32} {r : List Value} {M : mM} {K : List Value → mM → Prop} {X : Nat → mM → Prop} : opIald (.int i :: .ref 36 :: r) M K X = (vp_in i 140 ∧ K (.int (fA M 35 i.toNatClampNeg) :: r) M) := propext ⟨fun h => h.2, fun h => ⟨by decide, h⟩⟩
theorem opIast_35 {x i : Int32} {r : List Value} {M : mM} {K : List Value → mM → Prop} {X : Nat → mM → Prop} : opIast (.int x :: .int i :: .ref 36 :: r) M K X = (vp_in i 140 ∧ K r (uA M 35 i.toNatClampNeg x)) := propext ⟨fun h => h.2, fun h => ⟨by decide, h⟩⟩
theorem opIald_36 {i : Int32} {r : List Value} {M : mM} {K : List Value → mM → Prop} {X : Nat → mM → Prop} : opIald (.int i :: .ref 37 :: r) M K X = (vp_in i 256 ∧ K (.int (fA M 36 i.toNatClampNeg) :: r) M) := propext ⟨fun h => h.2, fun h => ⟨by decide, h⟩⟩
theorem opIast_36 {x i : Int32} {r : List Value} {M : mM} {K : List Value → mM → Prop} {X : Nat → mM → Prop} : opIast (.int x :: .int i :: .ref 37 :: r) M K X = (vp_in i 256 ∧ K r (uA M 36 i.toNatClampNeg x)) := propext ⟨fun h => h.2, fun h => ⟨by decide, h⟩⟩
theorem opZald_37 {i : Int32} {r : List Value} {M : mM} {K : List Value → mM → Prop} {X : Nat → mM → Prop} : opZald (.int i :: .ref 38 :: r) M K X = (vp_in i 140 ∧ K (.int (fA M 37 i.toNatClampNeg) :: r) M) := propext ⟨fun h => h.2, fun h => ⟨by decide, h⟩⟩
theorem opZast_37 {x i : Int32} {r : List Value} {M : mM} {K : List Value → mM → Prop} {X : Nat → mM → Prop} : opZast (.int x :: .int i :: .ref 38 :: r) M K X = ((x = 0 ∨ x = 1) ∧ vp_in i 140 ∧ K r (uA M 37 i.toNatClampNeg x)) := propext ⟨fun h => h.2, fun h => ⟨by decide, h⟩⟩
theorem opIald_40 {i : Int32} {r : List Value} {M : mM} {K : List Value → mM → Prop} {X : Nat → mM → Prop} : opIald (.int i :: .ref 41 :: r) M K X = (vp_in i 256 ∧ K (.int (fA M 40 i.toNatClampNeg) :: r) M) := propext ⟨fun h => h.2, fun h => ⟨by decide, h⟩⟩
theorem opIast_40 {x i : Int32} {r : List Value} {M : mM} {K : List Value → mM → Prop} {X : Nat → mM → Prop} : opIast (.int x :: .int i :: .ref 41 :: r) M K X = (vp_in i 256 ∧ K r (uA M 40 i.toNatClampNeg x)) := propext ⟨fun h => h.2, fun h => ⟨by decide, h⟩⟩
theorem opZald_41 {i : Int32} {r : List Value} {M : mM} {K : List Value → mM → Prop} {X : Nat → mM → Prop} : opZald (.int i :: .ref 42 :: r) M K X = (vp_in i 256 ∧ K (.int (fA M 41 i.toNatClampNeg) :: r) M) := propext ⟨fun h => h.2, fun h => ⟨by decide, h⟩⟩
theorem opZast_41 {x i : Int32} {r : List Value} {M : mM} {K : List Value → mM → Prop} {X : Nat → mM → Prop} : opZast (.int x :: .int i :: .ref 42 :: r) M K X = ((x = 0 ∨ x = 1) ∧ vp_in i 256 ∧ K r (uA M 41 i.toNatClampNeg x)) := propext ⟨fun h => h.2, fun h => ⟨by decide, h⟩⟩
theorem opIald_42 {i : Int32} {r : List Value} {M : mM} {K : List Value → mM → Prop} {X : Nat → mM → Prop} : opIald (.int i :: .ref 43 :: r) M K X = (vp_in i 12 ∧ K (.int (fA M 42 i.toNatClampNeg) :: r) M) := propext ⟨fun h => h.2, fun h => ⟨by decide, h⟩⟩
theorem opIast_42 {x i : Int32} {r : List Value} {M : mM} {K : List Value → mM → Prop} {X : Nat → mM → Prop} : opIast (.int x :: .int i :: .ref 43 :: r) M K X = (vp_in i 12 ∧ K r (uA M 42 i.toNatClampNeg x)) := propext ⟨fun h => h.2, fun h => ⟨by decide, h⟩⟩
theorem opIald_44 {i : Int32} {r : List Value} {M : mM} {K : List Value → mM → Prop} {X : Nat → mM → Prop} : opIald (.int i :: .ref 45 :: r) M K X = (vp_in i 1024 ∧ K (.int (fA M 44 i.toNatClampNeg) :: r) M) := propext ⟨fun h => h.2, fun h => ⟨by decide, h⟩⟩
theorem opIast_44 {x i : Int32} {r : List Value} {M : mM} {K : List Value → mM → Prop} {X : Nat → mM → Prop} : opIast (.int x :: .int i :: .ref 45 :: r) M K X = (vp_in i 1024 ∧ K r (uA M 44 i.toNatClampNeg x)) := propext ⟨fun h => h.2, fun h => ⟨by decide, h⟩⟩
theorem opIald_45 {i : Int32} {r : List Value} {M : mM} {K : List Value → mM → Prop} {X : Nat → mM → Prop} : opIald (.int i :: .ref 46 :: r) M K X = (vp_in i 36 ∧ K (.int (fA M 45 i.toNatClampNeg) :: r) M) := propext ⟨fun h => h.2, fun h => ⟨by decide, h⟩⟩
theorem opIast_45 {x i : Int32} {r : List Value} {M : mM} {K : List Value → mM → Prop} {X : Nat → mM → Prop} : opIast (.int x :: .int i :: .ref 46 :: r) M K X = (vp_in i 36 ∧ K r (uA M 45 i.toNatClampNeg x)) := propext ⟨fun h => h.2, fun h => ⟨by decide, h⟩⟩
theorem opIald_46 {i : Int32} {r : List Value} {M : mM} {K : List Value → mM → Prop} {X : Nat → mM → Prop} : opIald (.int i :: .ref 47 :: r) M K X = (vp_in i 6 ∧ K (.int (fA M 46 i.toNatClampNeg) :: r) M) := propext ⟨fun h => h.2, fun h => ⟨by decide, h⟩⟩
theorem opIast_46 {x i : Int32} {r : List Value} {M : mM} {K : List Value → mM → Prop} {X : Nat → mM → Prop} : opIast (.int x :: .int i :: .ref 47 :: r) M K X = (vp_in i 6 ∧ K r (uA M 46 i.toNatClampNeg x)) := propext ⟨fun h => h.2, fun h => ⟨by decide, h⟩⟩
theorem opIald_47 {i : Int32} {r : List Value} {M : mM} {K : List Value → mM → Prop} {X : Nat → mM → Prop} : opIald (.int i :: .ref 48 :: r) M K X = (vp_in i 1200 ∧ K (.int (fA M 47 i.toNatClampNeg) :: r) M) := propext ⟨fun h => h.2, fun h => ⟨by decide, h⟩⟩
theorem opIast_47 {x i : Int32} {r : List Value} {M : mM} {K : List Value → mM → Prop} {X : Nat → mM → Prop} : opIast (.int x :: .int i :: .ref 48 :: r) M K X = (vp_in i 1200 ∧ K r (uA M 47 i.toNatClampNeg x)) := propext ⟨fun h => h.2, fun h => ⟨by decide, h⟩⟩
theorem opIald_60 {i : Int32} {r : List Value} {M : mM} {K : List Value → mM → Prop} {X : Nat → mM → Prop} : opIald (.int i :: .ref 61 :: r) M K X = (vp_in i 12 ∧ K (.int (fA M 60 i.toNatClampNeg) :: r) M) := propext ⟨fun h => h.2, fun h => ⟨by decide, h⟩⟩
theorem opIast_60 {x i : Int32} {r : List Value} {M : mM} {K : List Value → mM → Prop} {X : Nat → mM → Prop} : opIast (.int x :: .int i :: .ref 61 :: r) M K X = (vp_in i 12 ∧ K r (uA M 60 i.toNatClampNeg x)) := propext ⟨fun h => h.2, fun h => ⟨by decide, h⟩⟩
theorem opIald_61 {i : Int32} {r : List Value} {M : mM} {K : List Value → mM → Prop} {X : Nat → mM → Prop} : opIald (.int i :: .ref 62 :: r) M K X = (vp_in i 12 ∧ K (.int (fA M 61 i.toNatClampNeg) :: r) M) := propext ⟨fun h => h.2, fun h => ⟨by decide, h⟩⟩
theorem opIast_61 {x i : Int32} {r : List Value} {M : mM} {K : List Value → mM → Prop} {X : Nat → mM → Prop} : opIast (.int x :: .int i :: .ref 62 :: r) M K X = (vp_in i 12 ∧ K r (uA M 61 i.toNatClampNeg x)) := propext ⟨fun h => h.2, fun h => ⟨by decide, h⟩⟩
theorem opIald_62 {i : Int32} {r : List Value} {M : mM} {K : List Value → mM → Prop} {X : Nat → mM → Prop} : opIald (.int i :: .ref 63 :: r) M K X = (vp_in i 12 ∧ K (.int (fA M 62 i.toNatClampNeg) :: r) M) := propext ⟨fun h => h.2, fun h => ⟨by decide, h⟩⟩
theorem opIast_62 {x i : Int32} {r : List Value} {M : mM} {K : List Value → mM → Prop} {X : Nat → mM → Prop} : opIast (.int x :: .int i :: .ref 63 :: r) M K X = (vp_in i 12 ∧ K r (uA M 62 i.toNatClampNeg x)) := propext ⟨fun h => h.2, fun h => ⟨by decide, h⟩⟩
theorem opZald_63 {i : Int32} {r : List Value} {M : mM} {K : List Value → mM → Prop} {X : Nat → mM → Prop} : opZald (.int i :: .ref 64 :: r) M K X = (vp_in i 12 ∧ K (.int (fA M 63 i.toNatClampNeg) :: r) M) := propext ⟨fun h => h.2, fun h => ⟨by decide, h⟩⟩
theorem opZast_63 {x i : Int32} {r : List Value} {M : mM} {K : List Value → mM → Prop} {X : Nat → mM → Prop} : opZast (.int x :: .int i :: .ref 64 :: r) M K X = ((x = 0 ∨ x = 1) ∧ vp_in i 12 ∧ K r (uA M 63 i.toNatClampNeg x)) := propext ⟨fun h => h.2, fun h => ⟨by decide, h⟩⟩
theorem opIald_68 {i : Int32} {r : List Value} {M : mM} {K : List Value → mM → Prop} {X : Nat → mM → Prop} : opIald (.int i :: .ref 69 :: r) M K X = (vp_in i 32 ∧ K (.int (fA M 68 i.toNatClampNeg) :: r) M) := propext ⟨fun h => h.2, fun h => ⟨by decide, h⟩⟩
theorem opIast_68 {x i : Int32} {r : List Value} {M : mM} {K : List Value → mM → Prop} {X : Nat → mM → Prop} : opIast (.int x :: .int i :: .ref 69 :: r) M K X = (vp_in i 32 ∧ K r (uA M 68 i.toNatClampNeg x)) := propext ⟨fun h => h.2, fun h => ⟨by decide, h⟩⟩
theorem opIald_69 {i : Int32} {r : List Value} {M : mM} {K : List Value → mM → Prop} {X : Nat → mM → Prop} : opIald (.int i :: .ref 70 :: r) M K X = (vp_in i 300 ∧ K (.int (fA M 69 i.toNatClampNeg) :: r) M) := propext ⟨fun h => h.2, fun h => ⟨by decide, h⟩⟩
theorem opIast_69 {x i : Int32} {r : List Value} {M : mM} {K : List Value → mM → Prop} {X : Nat → mM → Prop} : opIast (.int x :: .int i :: .ref 70 :: r) M K X = (vp_in i 300 ∧ K r (uA M 69 i.toNatClampNeg x)) := propext ⟨fun h => h.2, fun h => ⟨by decide, h⟩⟩
theorem opIald_70 {i : Int32} {r : List Value} {M : mM} {K : List Value → mM → Prop} {X : Nat → mM → Prop} : opIald (.int i :: .ref 71 :: r) M K X = (vp_in i 300 ∧ K (.int (fA M 70 i.toNatClampNeg) :: r) M) := propext ⟨fun h => h.2, fun h => ⟨by decide, h⟩⟩
theorem opIast_70 {x i : Int32} {r : List Value} {M : mM} {K : List Value → mM → Prop} {X : Nat → mM → Prop} : opIast (.int x :: .int i :: .ref 71 :: r) M K X = (vp_in i 300 ∧ K r (uA M 70 i.toNatClampNeg x)) := propext ⟨fun h => h.2, fun h => ⟨by decide, h⟩⟩
theorem opIald_71 {i : Int32} {r : List Value} {M : mM} {K : List Value → mM → Prop} {X : Nat → mM → Prop} : opIald (.int i :: .ref 72 :: r) M K X = (vp_in i 7 ∧ K (.int (fA M 71 i.toNatClampNeg) :: r) M) := propext ⟨fun h => h.2, fun h => ⟨by decide, h⟩⟩
theorem opIast_71 {x i : Int32} {r : List Value} {M : mM} {K : List Value → mM → Prop} {X : Nat → mM → Prop} : opIast (.int x :: .int i :: .ref 72 :: r) M K X = (vp_in i 7 ∧ K r (uA M 71 i.toNatClampNeg x)) := propext ⟨fun h => h.2, fun h => ⟨by decide, h⟩⟩
theorem opIald_72 {i : Int32} {r : List Value} {M : mM} {K : List Value → mM → Prop} {X : Nat → mM → Prop} : opIald (.int i :: .ref 73 :: r) M K X = (vp_in i 6 ∧ K (.int (fA M 72 i.toNatClampNeg) :: r) M) := propext ⟨fun h => h.2, fun h => ⟨by decide, h⟩⟩
theorem opIast_72 {x i : Int32} {r : List Value} {M : mM} {K : List Value → mM → Prop} {X : Nat → mM → Prop} : opIast (.int x :: .int i :: .ref 73 :: r) M K X = (vp_in i 6 ∧ K r (uA M 72 i.toNatClampNeg x)) := propext ⟨fun h => h.2, fun h => ⟨by decide, h⟩⟩
theorem opIald_73 {i : Int32} {r : List Value} {M : mM} {K : List Value → mM → Prop} {X : Nat → mM → Prop} : opIald (.int i :: .ref 74 :: r) M K X = (vp_in i 300 ∧ K (.int (fA M 73 i.toNatClampNeg) :: r) M) := propext ⟨fun h => h.2, fun h => ⟨by decide, h⟩⟩
theorem opIast_73 {x i : Int32} {r : List Value} {M : mM} {K : List Value → mM → Prop} {X : Nat → mM → Prop} : opIast (.int x :: .int i :: .ref 74 :: r) M K X = (vp_in i 300 ∧ K r (uA M 73 i.toNatClampNeg x)) := propext ⟨fun h => h.2, fun h => ⟨by decide, h⟩⟩
theorem opIald_74 {i : Int32} {r : List Value} {M : mM} {K : List Value → mM → Prop} {X : Nat → mM → Prop} : opIald (.int i :: .ref 75 :: r) M K X = (vp_in i 300 ∧ K (.int (fA M 74 i.toNatClampNeg) :: r) M) := propext ⟨fun h => h.2, fun h => ⟨by decide, h⟩⟩
theorem opIast_74 {x i : Int32} {r : List Value} {M : mM} {K : List Value → mM → Prop} {X : Nat → mM → Prop} : opIast (.int x :: .int i :: .ref 75 :: r) M K X = (vp_in i 300 ∧ K r (uA M 74 i.toNatClampNeg x)) := propext ⟨fun h => h.2, fun h => ⟨by decide, h⟩⟩
theorem opIald_75 {i : Int32} {r : List Value} {M : mM} {K : List Value → mM → Prop} {X : Nat → mM → Prop} : opIald (.int i :: .ref 76 :: r) M K X = (vp_in i 7 ∧ K (.int (fA M 75 i.toNatClampNeg) :: r) M) := propext ⟨fun h => h.2, fun h => ⟨by decide, h⟩⟩
theorem opIast_75 {x i : Int32} {r : List Value} {M : mM} {K : List Value → mM → Prop} {X : Nat → mM → Prop} : opIast (.int x :: .int i :: .ref 76 :: r) M K X = (vp_in i 7 ∧ K r (uA M 75 i.toNatClampNeg x)) := propext ⟨fun h => h.2, fun h => ⟨by decide, h⟩⟩
theorem opIald_76 {i : Int32} {r : List Value} {M : mM} {K : List Value → mM → Prop} {X : Nat → mM → Prop} : opIald (.int i :: .ref 77 :: r) M K X = (vp_in i 6 ∧ K (.int (fA M 76 i.toNatClampNeg) :: r) M) := propext ⟨fun h => h.2, fun h => ⟨by decide, h⟩⟩
theorem opIast_76 {x i : Int32} {r : List Value} {M : mM} {K : List Value → mM → Prop} {X : Nat → mM → Prop} : opIast (.int x :: .int i :: .ref 77 :: r) M K X = (vp_in i 6 ∧ K r (uA M 76 i.toNatClampNeg x)) := propext ⟨fun h => h.2, fun h => ⟨by decide, h⟩⟩
theorem opIald_77 {i : Int32} {r : List Value} {M : mM} {K : List Value → mM → Prop} {X : Nat → mM → Prop} : opIald (.int i :: .ref 78 :: r) M K X = (vp_in i 300 ∧ K (.int (fA M 77 i.toNatClampNeg) :: r) M) := propext ⟨fun h => h.2, fun h => ⟨by decide, h⟩⟩
theorem opIast_77 {x i : Int32} {r : List Value} {M : mM} {K : List Value → mM → Prop} {X : Nat → mM → Prop} : opIast (.int x :: .int i :: .ref 78 :: r) M K X = (vp_in i 300 ∧ K r (uA M 77 i.toNatClampNeg x)) := propext ⟨fun h => h.2, fun h => ⟨by decide, h⟩⟩
theorem opIald_78 {i : Int32} {r : List Value} {M : mM} {K : List Value → mM → Prop} {X : Nat → mM → Prop} : opIald (.int i :: .ref 79 :: r) M K X = (vp_in i 50 ∧ K (.int (fA M 78 i.toNatClampNeg) :: r) M) := propext ⟨fun h => h.2, fun h => ⟨by decide, h⟩⟩
theorem opIast_78 {x i : Int32} {r : List Value} {M : mM} {K : List Value → mM → Prop} {X : Nat → mM → Prop} : opIast (.int x :: .int i :: .ref 79 :: r) M K X = (vp_in i 50 ∧ K r (uA M 78 i.toNatClampNeg x)) := propext ⟨fun h => h.2, fun h => ⟨by decide, h⟩⟩
theorem opIald_79 {i : Int32} {r : List Value} {M : mM} {K : List Value → mM → Prop} {X : Nat → mM → Prop} : opIald (.int i :: .ref 80 :: r) M K X = (vp_in i 9 ∧ K (.int (fA M 79 i.toNatClampNeg) :: r) M) := propext ⟨fun h => h.2, fun h => ⟨by decide, h⟩⟩
theorem opIast_79 {x i : Int32} {r : List Value} {M : mM} {K : List Value → mM → Prop} {X : Nat → mM → Prop} : opIast (.int x :: .int i :: .ref 80 :: r) M K X = (vp_in i 9 ∧ K r (uA M 79 i.toNatClampNeg x)) := propext ⟨fun h => h.2, fun h => ⟨by decide, h⟩⟩
theorem opZald_87 {i : Int32} {r : List Value} {M : mM} {K : List Value → mM → Prop} {X : Nat → mM → Prop} : opZald (.int i :: .ref 88 :: r) M K X = (vp_in i 3 ∧ K (.int (fA M 87 i.toNatClampNeg) :: r) M) := propext ⟨fun h => h.2, fun h => ⟨by decide, h⟩⟩
theorem opZast_87 {x i : Int32} {r : List Value} {M : mM} {K : List Value → mM → Prop} {X : Nat → mM → Prop} : opZast (.int x :: .int i :: .ref 88 :: r) M K X = ((x = 0 ∨ x = 1) ∧ vp_in i 3 ∧ K r (uA M 87 i.toNatClampNeg x)) := propext ⟨fun h => h.2, fun h => ⟨by decide, h⟩⟩
theorem opZald_88 {i : Int32} {r : List Value} {M : mM} {K : List Value → mM → Prop} {X : Nat → mM → Prop} : opZald (.int i :: .ref 89 :: r) M K X = (vp_in i 768 ∧ K (.int (fA M 88 i.toNatClampNeg) :: r) M) := propext ⟨fun h => h.2, fun h => ⟨by decide, h⟩⟩
theorem opZast_88 {x i : Int32} {r : List Value} {M : mM} {K : List Value → mM → Prop} {X : Nat → mM → Prop} : opZast (.int x :: .int i :: .ref 89 :: r) M K X = ((x = 0 ∨ x = 1) ∧ vp_in i 768 ∧ K r (uA M 88 i.toNatClampNeg x)) := propext ⟨fun h => h.2, fun h => ⟨by decide, h⟩⟩
theorem opIald_89 {i : Int32} {r : List Value} {M : mM} {K : List Value → mM → Prop} {X : Nat → mM → Prop} : opIald (.int i :: .ref 90 :: r) M K X = (vp_in i 9216 ∧ K (.int (fA M 89 i.toNatClampNeg) :: r) M) := propext ⟨fun h => h.2, fun h => ⟨by decide, h⟩⟩
theorem opIast_89 {x i : Int32} {r : List Value} {M : mM} {K : List Value → mM → Prop} {X : Nat → mM → Prop} : opIast (.int x :: .int i :: .ref 90 :: r) M K X = (vp_in i 9216 ∧ K r (uA M 89 i.toNatClampNeg x)) := propext ⟨fun h => h.2, fun h => ⟨by decide, h⟩⟩
theorem opIald_90 {i : Int32} {r : List Value} {M : mM} {K : List Value → mM → Prop} {X : Nat → mM → Prop} : opIald (.int i :: .ref 91 :: r) M K X = (vp_in i 36 ∧ K (.int (fA M 90 i.toNatClampNeg) :: r) M) := propext ⟨fun h => h.2, fun h => ⟨by decide, h⟩⟩
theorem opIast_90 {x i : Int32} {r : List Value} {M : mM} {K : List Value → mM → Prop} {X : Nat → mM → Prop} : opIast (.int x :: .int i :: .ref 91 :: r) M K X = (vp_in i 36 ∧ K r (uA M 90 i.toNatClampNeg x)) := propext ⟨fun h => h.2, fun h => ⟨by decide, h⟩⟩
theorem opIald_91 {i : Int32} {r : List Value} {M : mM} {K : List Value → mM → Prop} {X : Nat → mM → Prop} : opIald (.int i :: .ref 92 :: r) M K X = (vp_in i 36 ∧ K (.int (fA M 91 i.toNatClampNeg) :: r) M) := propext ⟨fun h => h.2, fun h => ⟨by decide, h⟩⟩
theorem opIast_91 {x i : Int32} {r : List Value} {M : mM} {K : List Value → mM → Prop} {X : Nat → mM → Prop} : opIast (.int x :: .int i :: .ref 92 :: r) M K X = (vp_in i 36 ∧ K r (uA M 91 i.toNatClampNeg x)) := propext ⟨fun h => h.2, fun h => ⟨by decide, h⟩⟩
theorem opIald_92 {i : Int32} {r : List Value} {M : mM} {K : List Value → mM → Prop} {X : Nat → mM → Prop} : opIald (.int i :: .ref 93 :: r) M K X = (vp_in i 3 ∧ K (.int (fA M 92 i.toNatClampNeg) :: r) M) := propext ⟨fun h => h.2, fun h => ⟨by decide, h⟩⟩
theorem opIast_92 {x i : Int32} {r : List Value} {M : mM} {K : List Value → mM → Prop} {X : Nat → mM → Prop} : opIast (.int x :: .int i :: .ref 93 :: r) M K X = (vp_in i 3 ∧ K r (uA M 92 i.toNatClampNeg x)) := propext ⟨fun h => h.2, fun h => ⟨by decide, h⟩⟩
theorem opIald_93 {i : Int32} {r : List Value} {M : mM} {K : List Value → mM → Prop} {X : Nat → mM → Prop} : opIald (.int i :: .ref 94 :: r) M K X = (vp_in i 3 ∧ K (.int (fA M 93 i.toNatClampNeg) :: r) M) := propext ⟨fun h => h.2, fun h => ⟨by decide, h⟩⟩
theorem opIast_93 {x i : Int32} {r : List Value} {M : mM} {K : List Value → mM → Prop} {X : Nat → mM → Prop} : opIast (.int x :: .int i :: .ref 94 :: r) M K X = (vp_in i 3 ∧ K r (uA M 93 i.toNatClampNeg x)) := propext ⟨fun h => h.2, fun h => ⟨by decide, h⟩⟩
theorem se_tb2_c {μ : Type} {A B : Nat → Nat → se_Op μ} {i : Nat} : se_tb2 A B 3 i = A 3 i ∧ se_tb2 A B 4 i = A 4 i ∧ se_tb2 A B 5 i = A 5 i := ⟨rfl, rfl, rfl⟩
theorem se_tb2_3 {μ : Type} {A B : Nat → Nat → se_Op μ} {i : Nat} : se_tb2 A B 3 i = A 3 i := rfl
theorem se_tb2_4 {μ : Type} {A B : Nat → Nat → se_Op μ} {i : Nat} : se_tb2 A B 4 i = A 4 i := rfl
theorem se_tb2_5 {μ : Type} {A B : Nat → Nat → se_Op μ} {i : Nat} : se_tb2 A B 5 i = A 5 i := rfl
theorem se_tb2_0 {μ : Type} {A B : Nat → Nat → se_Op μ} {i : Nat} : se_tb2 A B 0 i = B 0 i := rfl
theorem se_tb2_1 {μ : Type} {A B : Nat → Nat → se_Op μ} {i : Nat} : se_tb2 A B 1 i = B 1 i := rfl
theorem se_tb2_2 {μ : Type} {A B : Nat → Nat → se_Op μ} {i : Nat} : se_tb2 A B 2 i = B 2 i := rfl
theorem se_tb2_6 {μ : Type} {A B : Nat → Nat → se_Op μ} {i : Nat} : se_tb2 A B 6 i = B 6 i := rfl
theorem se_tb2_7 {μ : Type} {A B : Nat → Nat → se_Op μ} {i : Nat} : se_tb2 A B 7 i = B 7 i := rfl
theorem se_tb2_8 {μ : Type} {A B : Nat → Nat → se_Op μ} {i : Nat} : se_tb2 A B 8 i = B 8 i := rfl
theorem se_tb2_9 {μ : Type} {A B : Nat → Nat → se_Op μ} {i : Nat} : se_tb2 A B 9 i = B 9 i := rfl
theorem se_tb2_10 {μ : Type} {A B : Nat → Nat → se_Op μ} {i : Nat} : se_tb2 A B 10 i = B 10 i := rfl
theorem se_tb2_11 {μ : Type} {A B : Nat → Nat → se_Op μ} {i : Nat} : se_tb2 A B 11 i = B 11 i := rfl
theorem se_tb2_12 {μ : Type} {A B : Nat → Nat → se_Op μ} {i : Nat} : se_tb2 A B 12 i = B 12 i := rfl
theorem se_tb2_13 {μ : Type} {A B : Nat → Nat → se_Op μ} {i : Nat} : se_tb2 A B 13 i = B 13 i := rfl
theorem se_tb2_14 {μ : Type} {A B : Nat → Nat → se_Op μ} {i : Nat} : se_tb2 A B 14 i = B 14 i := rfl
theorem se_tb2_15 {μ : Type} {A B : Nat → Nat → se_Op μ} {i : Nat} : se_tb2 A B 15 i = B 15 i := rfl
theorem se_tb2_16 {μ : Type} {A B : Nat → Nat → se_Op μ} {i : Nat} : se_tb2 A B 16 i = B 16 i := rfl
theorem se_tb2_17 {μ : Type} {A B : Nat → Nat → se_Op μ} {i : Nat} : se_tb2 A B 17 i = B 17 i := rfl
theorem se_tb2_18 {μ : Type} {A B : Nat → Nat → se_Op μ} {i : Nat} : se_tb2 A B 18 i = B 18 i := rfl
theorem se_tb2_19 {μ : Type} {A B : Nat → Nat → se_Op μ} {i : Nat} : se_tb2 A B 19 i = B 19 i := rfl
theorem se_tb2_20 {μ : Type} {A B : Nat → Nat → se_Op μ} {i : Nat} : se_tb2 A B 20 i = B 20 i := rfl
theorem se_tb2_21 {μ : Type} {A B : Nat → Nat → se_Op μ} {i : Nat} : se_tb2 A B 21 i = B 21 i := rfl
theorem se_tb2_22 {μ : Type} {A B : Nat → Nat → se_Op μ} {i : Nat} : se_tb2 A B 22 i = B 22 i := rfl
def rz (x : Int32) (Q : Bool → Prop) : Prop := ∃ b, x = bI b ∧ Q b
theorem bI_inj {a b : Bool} (h : bI a = bI b) : a = b := by cases a <;> cases b <;> first | rfl | exact absurd h (by decide)
theorem rz_b {b : Bool} {Q : Bool → Prop} : rz (bI b) Q = Q b := propext ⟨fun ⟨c, h1, h2⟩ => by rw [bI_inj h1]; exact h2, fun h => ⟨b, rfl, h⟩⟩
theorem rz_1 {Q : Bool → Prop} : rz 1 Q = Q true := rz_b (b := true)
theorem rz_0 {Q : Bool → Prop} : rz 0 Q = Q false := rz_b (b := false)
abbrev mc_sIrI (l : Launch) (y : MethodName) (cc : ByteArray) (maxL fr lo : Nat) (P : Int32 → mM → Prop) (Q : Int32 → mM → Int32 → mM → Prop) : Prop := mCon l y cc maxL (some .int) fr lo (fun av M => ∃ (a0 : Int32), av = [.int a0] ∧ P a0 M) (fun av M v M' => ∀ (a0 : Int32), av = [.int a0] → ∃ x, v = some (.int x) ∧ Q a0 M x M')
def ov_sIrI (P : Int32 → mM → Prop) (Q : Int32 → mM → Int32 → mM → Prop) : se_Op mM := fun st M K _ => match st with
  | .int a0 :: r => P a0 M ∧ se_c8 8 r ∧ ∀ x M', Q a0 M x M' → K (.int x :: r) M'
  | _ => False
def of_sIrI (P : Int32 → mM → Prop) (R : Int32 → mM → Int32) (F : Int32 → mM → mM) : se_Op mM := fun st M K _ => match st with
  | .int a0 :: r => P a0 M ∧ se_c8 8 r ∧ K (.int (R a0 M) :: r) (F a0 M)
  | _ => False
theorem ov_sIrI_r {P : Int32 → mM → Prop} {Q : Int32 → mM → Int32 → mM → Prop} {a0 : Int32} {r : List Value} {M : mM} {K : List Value → mM → Prop} {X : Nat → mM → Prop} : ov_sIrI P Q (.int a0 :: r) M K X = (P a0 M ∧ se_c8 8 r ∧ ∀ x M', Q a0 M x M' → K (.int x :: r) M') := rfl
theorem of_sIrI_r {P : Int32 → mM → Prop} {R : Int32 → mM → Int32} {F : Int32 → mM → mM} {a0 : Int32} {r : List Value} {M : mM} {K : List Value → mM → Prop} {X : Nat → mM → Prop} : of_sIrI P R F (.int a0 :: r) M K X = (P a0 M ∧ se_c8 8 r ∧ K (.int (R a0 M) :: r) (F a0 M)) := rfl
section
variable {p : Program} {l : Launch} {e : Env} {s : State} {m : MethodId} {args : Array Value} {below : List Frame} {meth : Method} {c : Code} {nL : Nat} {cc : ByteArray} {ret : Option FieldType} {Q0 : State → Prop} {g : mG} {H0 : Heap} {idx fr lo : Nat}
theorem ov_sIrI_ok {y : MethodName} {cc' : ByteArray} {maxL' fr' lo' : Nat} {P : Int32 → mM → Prop} {Q : Int32 → mM → Int32 → mM → Prop} (hM : mc_sIrI l y cc' maxL' fr' lo' P Q) (h1 : Cond.methodLink RX2 idx y ∈ lw_all) (h2 : Cond.static y ∈ lw_all) (h3 : Cond.initialized y.cls ∈ lw_all) (h5 : Cond.code y cc' maxL' (some .int) ∈ lw_all) (hd0 : y.cls ≠ "java/lang/invoke/MethodHandle" ∧ y.cls ≠ "java/lang/invoke/VarHandle" ∧ (parseMethodDescriptor y.desc).map (fun d => d.parameters.length) = some 1) (hR : fr' + 1 ≤ fr ∧ 8 + (maxL' + 11) + lo' ≤ lo) (C : se_Cx p s m args meth c cc nL RX2 ret) (hG : mGl g s) (hI : mInj g) : se_Snd p l e (mRoom fr lo) s m args below meth c Q0 nL g.1 (mRM g H0) cc (.invokestatic idx) 3 (ov_sIrI P Q) := by
  refine (oS_ok hM h1 h2 h3 h5 hd0 hR C hG hI).mono fun st M K X h => ?_
  unfold ov_sIrI at h
  split at h
  · rename_i a0 r
    exact ⟨[.int a0], r, rfl, rfl, h.2.1, ⟨a0, rfl, h.1⟩, fun v M' hp => by
      obtain ⟨x, rfl, hq⟩ := hp a0 rfl
      exact h.2.2 x M' hq⟩
  · exact h.elim
theorem of_sIrI_ok {y : MethodName} {cc' : ByteArray} {maxL' fr' lo' : Nat} {P : Int32 → mM → Prop} {R : Int32 → mM → Int32} {F : Int32 → mM → mM} (hM : mc_sIrI l y cc' maxL' fr' lo' P (fun a0 M x M' => x = R a0 M ∧ M' = F a0 M)) (h1 : Cond.methodLink RX2 idx y ∈ lw_all) (h2 : Cond.static y ∈ lw_all) (h3 : Cond.initialized y.cls ∈ lw_all) (h5 : Cond.code y cc' maxL' (some .int) ∈ lw_all) (hd0 : y.cls ≠ "java/lang/invoke/MethodHandle" ∧ y.cls ≠ "java/lang/invoke/VarHandle" ∧ (parseMethodDescriptor y.desc).map (fun d => d.parameters.length) = some 1) (hR : fr' + 1 ≤ fr ∧ 8 + (maxL' + 11) + lo' ≤ lo) (C : se_Cx p s m args meth c cc nL RX2 ret) (hG : mGl g s) (hI : mInj g) : se_Snd p l e (mRoom fr lo) s m args below meth c Q0 nL g.1 (mRM g H0) cc (.invokestatic idx) 3 (of_sIrI P R F) := by
  refine (ov_sIrI_ok hM h1 h2 h3 h5 hd0 hR C hG hI).mono fun st M K X h => ?_
  unfold of_sIrI at h
  split at h
  · exact ⟨h.1, h.2.1, fun x M' hq => by
      obtain ⟨rfl, rfl⟩ := hq
      exact h.2.2⟩
  · exact h.elim
end
def rt_sIrI (Q : Int32 → mM → Int32 → mM → Prop) (a0 : Int32) (M : mM) : Option Value → mM → Prop := fun v M' => se_nr (some .int) v ∧ (fun (av : List Value) (M : mM) (v : Option Value) (M' : mM) => ∀ (a0 : Int32), av = [.int a0] → ∃ x, v = some (.int x) ∧ Q a0 M x M') [.int a0] M v M'
theorem rt_sIrI_e {Q : Int32 → mM → Int32 → mM → Prop} {a0 : Int32} {M M' : mM} {z : Int32} : rt_sIrI Q a0 M (some (.int z)) M' = (Q a0 M z M') := by
  apply propext
  constructor
  · intro h
    obtain ⟨x, e, hq⟩ := h.2 a0 rfl
    cases e
    exact hq
  · intro h
    exact ⟨⟨_, rfl, rfl⟩, fun _ e => by
      cases e
      exact ⟨z, rfl, h⟩⟩
theorem mc_sIrI_of {l : Launch} {y : MethodName} {cc : ByteArray} {maxL fr lo : Nat} {P : Int32 → mM → Prop} {Q : Int32 → mM → Int32 → mM → Prop} {T : Nat → Nat → se_Op mM} (hy : plainName y.cls = true) (hyc : y.cls = RX2) (hT : mTS l cc maxL (some .int) fr lo T) (hL : 1 ≤ maxL)
    (body : ∀ (a0 : Int32) (M : mM), P a0 M → ∀ G : Nat → se_L → List Value → mM → Prop, (∀ (stops : List Nat) (n pc : Nat) (L : se_L) (st : List Value) (M' : mM), wpN False T cc stops G (fun _ _ _ _ => False) (rt_sIrI Q a0 M) n pc L st M' → G pc L st M') → G 0 (se_ent [.int a0] maxL) [] M) : mc_sIrI l y cc maxL fr lo P Q :=
  mOf hy hyc hT (fun av M h => by
    obtain ⟨a0, rfl, _⟩ := h
    exact hL) (fun av M hp G hG => by
    obtain ⟨a0, rfl, hp⟩ := hp
    exact body a0 M hp G hG)
abbrev mc_sIrZ (l : Launch) (y : MethodName) (cc : ByteArray) (maxL fr lo : Nat) (P : Int32 → mM → Prop) (Q : Int32 → mM → Bool → mM → Prop) : Prop := mCon l y cc maxL (some .boolean) fr lo (fun av M => ∃ (a0 : Int32), av = [.int a0] ∧ P a0 M) (fun av M v M' => ∀ (a0 : Int32), av = [.int a0] → ∃ x, v = some (.int (bI x)) ∧ Q a0 M x M')
def ov_sIrZ (P : Int32 → mM → Prop) (Q : Int32 → mM → Bool → mM → Prop) : se_Op mM := fun st M K _ => match st with
  | .int a0 :: r => P a0 M ∧ se_c8 8 r ∧ ∀ x M', Q a0 M x M' → K (.int (bI x) :: r) M'
  | _ => False
def of_sIrZ (P : Int32 → mM → Prop) (R : Int32 → mM → Bool) (F : Int32 → mM → mM) : se_Op mM := fun st M K _ => match st with
  | .int a0 :: r => P a0 M ∧ se_c8 8 r ∧ K (.int (bI (R a0 M)) :: r) (F a0 M)
  | _ => False
theorem ov_sIrZ_r {P : Int32 → mM → Prop} {Q : Int32 → mM → Bool → mM → Prop} {a0 : Int32} {r : List Value} {M : mM} {K : List Value → mM → Prop} {X : Nat → mM → Prop} : ov_sIrZ P Q (.int a0 :: r) M K X = (P a0 M ∧ se_c8 8 r ∧ ∀ x M', Q a0 M x M' → K (.int (bI x) :: r) M') := rfl
theorem of_sIrZ_r {P : Int32 → mM → Prop} {R : Int32 → mM → Bool} {F : Int32 → mM → mM} {a0 : Int32} {r : List Value} {M : mM} {K : List Value → mM → Prop} {X : Nat → mM → Prop} : of_sIrZ P R F (.int a0 :: r) M K X = (P a0 M ∧ se_c8 8 r ∧ K (.int (bI (R a0 M)) :: r) (F a0 M)) := rfl
section
variable {p : Program} {l : Launch} {e : Env} {s : State} {m : MethodId} {args : Array Value} {below : List Frame} {meth : Method} {c : Code} {nL : Nat} {cc : ByteArray} {ret : Option FieldType} {Q0 : State → Prop} {g : mG} {H0 : Heap} {idx fr lo : Nat}
theorem ov_sIrZ_ok {y : MethodName} {cc' : ByteArray} {maxL' fr' lo' : Nat} {P : Int32 → mM → Prop} {Q : Int32 → mM → Bool → mM → Prop} (hM : mc_sIrZ l y cc' maxL' fr' lo' P Q) (h1 : Cond.methodLink RX2 idx y ∈ lw_all) (h2 : Cond.static y ∈ lw_all) (h3 : Cond.initialized y.cls ∈ lw_all) (h5 : Cond.code y cc' maxL' (some .boolean) ∈ lw_all) (hd0 : y.cls ≠ "java/lang/invoke/MethodHandle" ∧ y.cls ≠ "java/lang/invoke/VarHandle" ∧ (parseMethodDescriptor y.desc).map (fun d => d.parameters.length) = some 1) (hR : fr' + 1 ≤ fr ∧ 8 + (maxL' + 11) + lo' ≤ lo) (C : se_Cx p s m args meth c cc nL RX2 ret) (hG : mGl g s) (hI : mInj g) : se_Snd p l e (mRoom fr lo) s m args below meth c Q0 nL g.1 (mRM g H0) cc (.invokestatic idx) 3 (ov_sIrZ P Q) := by
  refine (oS_ok hM h1 h2 h3 h5 hd0 hR C hG hI).mono fun st M K X h => ?_
  unfold ov_sIrZ at h
  split at h
  · rename_i a0 r
    exact ⟨[.int a0], r, rfl, rfl, h.2.1, ⟨a0, rfl, h.1⟩, fun v M' hp => by
      obtain ⟨x, rfl, hq⟩ := hp a0 rfl
      exact h.2.2 x M' hq⟩
  · exact h.elim
theorem of_sIrZ_ok {y : MethodName} {cc' : ByteArray} {maxL' fr' lo' : Nat} {P : Int32 → mM → Prop} {R : Int32 → mM → Bool} {F : Int32 → mM → mM} (hM : mc_sIrZ l y cc' maxL' fr' lo' P (fun a0 M x M' => x = R a0 M ∧ M' = F a0 M)) (h1 : Cond.methodLink RX2 idx y ∈ lw_all) (h2 : Cond.static y ∈ lw_all) (h3 : Cond.initialized y.cls ∈ lw_all) (h5 : Cond.code y cc' maxL' (some .boolean) ∈ lw_all) (hd0 : y.cls ≠ "java/lang/invoke/MethodHandle" ∧ y.cls ≠ "java/lang/invoke/VarHandle" ∧ (parseMethodDescriptor y.desc).map (fun d => d.parameters.length) = some 1) (hR : fr' + 1 ≤ fr ∧ 8 + (maxL' + 11) + lo' ≤ lo) (C : se_Cx p s m args meth c cc nL RX2 ret) (hG : mGl g s) (hI : mInj g) : se_Snd p l e (mRoom fr lo) s m args below meth c Q0 nL g.1 (mRM g H0) cc (.invokestatic idx) 3 (of_sIrZ P R F) := by
  refine (ov_sIrZ_ok hM h1 h2 h3 h5 hd0 hR C hG hI).mono fun st M K X h => ?_
  unfold of_sIrZ at h
  split at h
  · exact ⟨h.1, h.2.1, fun x M' hq => by
      obtain ⟨rfl, rfl⟩ := hq
      exact h.2.2⟩
  · exact h.elim
end
def rt_sIrZ (Q : Int32 → mM → Bool → mM → Prop) (a0 : Int32) (M : mM) : Option Value → mM → Prop := fun v M' => se_nr (some .boolean) v ∧ (fun (av : List Value) (M : mM) (v : Option Value) (M' : mM) => ∀ (a0 : Int32), av = [.int a0] → ∃ x, v = some (.int (bI x)) ∧ Q a0 M x M') [.int a0] M v M'
theorem rt_sIrZ_e {Q : Int32 → mM → Bool → mM → Prop} {a0 : Int32} {M M' : mM} {z : Int32} : rt_sIrZ Q a0 M (some (.int z)) M' = (rz z fun x => Q a0 M x M') := by
  apply propext
  constructor
  · intro h
    obtain ⟨x, e, hq⟩ := h.2 a0 rfl
    cases e
    exact ⟨x, rfl, hq⟩
  · intro h
    obtain ⟨x, rfl, hq⟩ := h
    exact ⟨⟨_, rfl, bI_nar x⟩, fun _ e => by
      cases e
      exact ⟨x, rfl, hq⟩⟩
theorem mc_sIrZ_of {l : Launch} {y : MethodName} {cc : ByteArray} {maxL fr lo : Nat} {P : Int32 → mM → Prop} {Q : Int32 → mM → Bool → mM → Prop} {T : Nat → Nat → se_Op mM} (hy : plainName y.cls = true) (hyc : y.cls = RX2) (hT : mTS l cc maxL (some .boolean) fr lo T) (hL : 1 ≤ maxL)
    (body : ∀ (a0 : Int32) (M : mM), P a0 M → ∀ G : Nat → se_L → List Value → mM → Prop, (∀ (stops : List Nat) (n pc : Nat) (L : se_L) (st : List Value) (M' : mM), wpN False T cc stops G (fun _ _ _ _ => False) (rt_sIrZ Q a0 M) n pc L st M' → G pc L st M') → G 0 (se_ent [.int a0] maxL) [] M) : mc_sIrZ l y cc maxL fr lo P Q :=
  mOf hy hyc hT (fun av M h => by
    obtain ⟨a0, rfl, _⟩ := h
    exact hL) (fun av M hp G hG => by
    obtain ⟨a0, rfl, hp⟩ := hp
    exact body a0 M hp G hG)
abbrev mc_sIIrI (l : Launch) (y : MethodName) (cc : ByteArray) (maxL fr lo : Nat) (P : Int32 → Int32 → mM → Prop) (Q : Int32 → Int32 → mM → Int32 → mM → Prop) : Prop := mCon l y cc maxL (some .int) fr lo (fun av M => ∃ (a0 : Int32) (a1 : Int32), av = [.int a0, .int a1] ∧ P a0 a1 M) (fun av M v M' => ∀ (a0 : Int32) (a1 : Int32), av = [.int a0, .int a1] → ∃ x, v = some (.int x) ∧ Q a0 a1 M x M')
def ov_sIIrI (P : Int32 → Int32 → mM → Prop) (Q : Int32 → Int32 → mM → Int32 → mM → Prop) : se_Op mM := fun st M K _ => match st with
  | .int a1 :: .int a0 :: r => P a0 a1 M ∧ se_c8 8 r ∧ ∀ x M', Q a0 a1 M x M' → K (.int x :: r) M'
  | _ => False
def of_sIIrI (P : Int32 → Int32 → mM → Prop) (R : Int32 → Int32 → mM → Int32) (F : Int32 → Int32 → mM → mM) : se_Op mM := fun st M K _ => match st with
  | .int a1 :: .int a0 :: r => P a0 a1 M ∧ se_c8 8 r ∧ K (.int (R a0 a1 M) :: r) (F a0 a1 M)
  | _ => False
theorem ov_sIIrI_r {P : Int32 → Int32 → mM → Prop} {Q : Int32 → Int32 → mM → Int32 → mM → Prop} {a0 : Int32} {a1 : Int32} {r : List Value} {M : mM} {K : List Value → mM → Prop} {X : Nat → mM → Prop} : ov_sIIrI P Q (.int a1 :: .int a0 :: r) M K X = (P a0 a1 M ∧ se_c8 8 r ∧ ∀ x M', Q a0 a1 M x M' → K (.int x :: r) M') := rfl
theorem of_sIIrI_r {P : Int32 → Int32 → mM → Prop} {R : Int32 → Int32 → mM → Int32} {F : Int32 → Int32 → mM → mM} {a0 : Int32} {a1 : Int32} {r : List Value} {M : mM} {K : List Value → mM → Prop} {X : Nat → mM → Prop} : of_sIIrI P R F (.int a1 :: .int a0 :: r) M K X = (P a0 a1 M ∧ se_c8 8 r ∧ K (.int (R a0 a1 M) :: r) (F a0 a1 M)) := rfl
section
variable {p : Program} {l : Launch} {e : Env} {s : State} {m : MethodId} {args : Array Value} {below : List Frame} {meth : Method} {c : Code} {nL : Nat} {cc : ByteArray} {ret : Option FieldType} {Q0 : State → Prop} {g : mG} {H0 : Heap} {idx fr lo : Nat}
theorem ov_sIIrI_ok {y : MethodName} {cc' : ByteArray} {maxL' fr' lo' : Nat} {P : Int32 → Int32 → mM → Prop} {Q : Int32 → Int32 → mM → Int32 → mM → Prop} (hM : mc_sIIrI l y cc' maxL' fr' lo' P Q) (h1 : Cond.methodLink RX2 idx y ∈ lw_all) (h2 : Cond.static y ∈ lw_all) (h3 : Cond.initialized y.cls ∈ lw_all) (h5 : Cond.code y cc' maxL' (some .int) ∈ lw_all) (hd0 : y.cls ≠ "java/lang/invoke/MethodHandle" ∧ y.cls ≠ "java/lang/invoke/VarHandle" ∧ (parseMethodDescriptor y.desc).map (fun d => d.parameters.length) = some 2) (hR : fr' + 1 ≤ fr ∧ 8 + (maxL' + 11) + lo' ≤ lo) (C : se_Cx p s m args meth c cc nL RX2 ret) (hG : mGl g s) (hI : mInj g) : se_Snd p l e (mRoom fr lo) s m args below meth c Q0 nL g.1 (mRM g H0) cc (.invokestatic idx) 3 (ov_sIIrI P Q) := by
  refine (oS_ok hM h1 h2 h3 h5 hd0 hR C hG hI).mono fun st M K X h => ?_
  unfold ov_sIIrI at h
  split at h
  · rename_i a1 a0 r
    exact ⟨[.int a0, .int a1], r, rfl, rfl, h.2.1, ⟨a0, a1, rfl, h.1⟩, fun v M' hp => by
      obtain ⟨x, rfl, hq⟩ := hp a0 a1 rfl
      exact h.2.2 x M' hq⟩
  · exact h.elim
theorem of_sIIrI_ok {y : MethodName} {cc' : ByteArray} {maxL' fr' lo' : Nat} {P : Int32 → Int32 → mM → Prop} {R : Int32 → Int32 → mM → Int32} {F : Int32 → Int32 → mM → mM} (hM : mc_sIIrI l y cc' maxL' fr' lo' P (fun a0 a1 M x M' => x = R a0 a1 M ∧ M' = F a0 a1 M)) (h1 : Cond.methodLink RX2 idx y ∈ lw_all) (h2 : Cond.static y ∈ lw_all) (h3 : Cond.initialized y.cls ∈ lw_all) (h5 : Cond.code y cc' maxL' (some .int) ∈ lw_all) (hd0 : y.cls ≠ "java/lang/invoke/MethodHandle" ∧ y.cls ≠ "java/lang/invoke/VarHandle" ∧ (parseMethodDescriptor y.desc).map (fun d => d.parameters.length) = some 2) (hR : fr' + 1 ≤ fr ∧ 8 + (maxL' + 11) + lo' ≤ lo) (C : se_Cx p s m args meth c cc nL RX2 ret) (hG : mGl g s) (hI : mInj g) : se_Snd p l e (mRoom fr lo) s m args below meth c Q0 nL g.1 (mRM g H0) cc (.invokestatic idx) 3 (of_sIIrI P R F) := by
  refine (ov_sIIrI_ok hM h1 h2 h3 h5 hd0 hR C hG hI).mono fun st M K X h => ?_
  unfold of_sIIrI at h
  split at h
  · exact ⟨h.1, h.2.1, fun x M' hq => by
      obtain ⟨rfl, rfl⟩ := hq
      exact h.2.2⟩
  · exact h.elim
end
def rt_sIIrI (Q : Int32 → Int32 → mM → Int32 → mM → Prop) (a0 : Int32) (a1 : Int32) (M : mM) : Option Value → mM → Prop := fun v M' => se_nr (some .int) v ∧ (fun (av : List Value) (M : mM) (v : Option Value) (M' : mM) => ∀ (a0 : Int32) (a1 : Int32), av = [.int a0, .int a1] → ∃ x, v = some (.int x) ∧ Q a0 a1 M x M') [.int a0, .int a1] M v M'
theorem rt_sIIrI_e {Q : Int32 → Int32 → mM → Int32 → mM → Prop} {a0 : Int32} {a1 : Int32} {M M' : mM} {z : Int32} : rt_sIIrI Q a0 a1 M (some (.int z)) M' = (Q a0 a1 M z M') := by
  apply propext
  constructor
  · intro h
    obtain ⟨x, e, hq⟩ := h.2 a0 a1 rfl
    cases e
    exact hq
  · intro h
    exact ⟨⟨_, rfl, rfl⟩, fun _ _ e => by
      cases e
      exact ⟨z, rfl, h⟩⟩
theorem mc_sIIrI_of {l : Launch} {y : MethodName} {cc : ByteArray} {maxL fr lo : Nat} {P : Int32 → Int32 → mM → Prop} {Q : Int32 → Int32 → mM → Int32 → mM → Prop} {T : Nat → Nat → se_Op mM} (hy : plainName y.cls = true) (hyc : y.cls = RX2) (hT : mTS l cc maxL (some .int) fr lo T) (hL : 2 ≤ maxL)
    (body : ∀ (a0 : Int32) (a1 : Int32) (M : mM), P a0 a1 M → ∀ G : Nat → se_L → List Value → mM → Prop, (∀ (stops : List Nat) (n pc : Nat) (L : se_L) (st : List Value) (M' : mM), wpN False T cc stops G (fun _ _ _ _ => False) (rt_sIIrI Q a0 a1 M) n pc L st M' → G pc L st M') → G 0 (se_ent [.int a0, .int a1] maxL) [] M) : mc_sIIrI l y cc maxL fr lo P Q :=
  mOf hy hyc hT (fun av M h => by
    obtain ⟨a0, a1, rfl, _⟩ := h
    exact hL) (fun av M hp G hG => by
    obtain ⟨a0, a1, rfl, hp⟩ := hp
    exact body a0 a1 M hp G hG)
abbrev mc_sIIrZ (l : Launch) (y : MethodName) (cc : ByteArray) (maxL fr lo : Nat) (P : Int32 → Int32 → mM → Prop) (Q : Int32 → Int32 → mM → Bool → mM → Prop) : Prop := mCon l y cc maxL (some .boolean) fr lo (fun av M => ∃ (a0 : Int32) (a1 : Int32), av = [.int a0, .int a1] ∧ P a0 a1 M) (fun av M v M' => ∀ (a0 : Int32) (a1 : Int32), av = [.int a0, .int a1] → ∃ x, v = some (.int (bI x)) ∧ Q a0 a1 M x M')
def ov_sIIrZ (P : Int32 → Int32 → mM → Prop) (Q : Int32 → Int32 → mM → Bool → mM → Prop) : se_Op mM := fun st M K _ => match st with
  | .int a1 :: .int a0 :: r => P a0 a1 M ∧ se_c8 8 r ∧ ∀ x M', Q a0 a1 M x M' → K (.int (bI x) :: r) M'
  | _ => False
def of_sIIrZ (P : Int32 → Int32 → mM → Prop) (R : Int32 → Int32 → mM → Bool) (F : Int32 → Int32 → mM → mM) : se_Op mM := fun st M K _ => match st with
  | .int a1 :: .int a0 :: r => P a0 a1 M ∧ se_c8 8 r ∧ K (.int (bI (R a0 a1 M)) :: r) (F a0 a1 M)
  | _ => False
theorem ov_sIIrZ_r {P : Int32 → Int32 → mM → Prop} {Q : Int32 → Int32 → mM → Bool → mM → Prop} {a0 : Int32} {a1 : Int32} {r : List Value} {M : mM} {K : List Value → mM → Prop} {X : Nat → mM → Prop} : ov_sIIrZ P Q (.int a1 :: .int a0 :: r) M K X = (P a0 a1 M ∧ se_c8 8 r ∧ ∀ x M', Q a0 a1 M x M' → K (.int (bI x) :: r) M') := rfl
theorem of_sIIrZ_r {P : Int32 → Int32 → mM → Prop} {R : Int32 → Int32 → mM → Bool} {F : Int32 → Int32 → mM → mM} {a0 : Int32} {a1 : Int32} {r : List Value} {M : mM} {K : List Value → mM → Prop} {X : Nat → mM → Prop} : of_sIIrZ P R F (.int a1 :: .int a0 :: r) M K X = (P a0 a1 M ∧ se_c8 8 r ∧ K (.int (bI (R a0 a1 M)) :: r) (F a0 a1 M)) := rfl
section
variable {p : Program} {l : Launch} {e : Env} {s : State} {m : MethodId} {args : Array Value} {below : List Frame} {meth : Method} {c : Code} {nL : Nat} {cc : ByteArray} {ret : Option FieldType} {Q0 : State → Prop} {g : mG} {H0 : Heap} {idx fr lo : Nat}
theorem ov_sIIrZ_ok {y : MethodName} {cc' : ByteArray} {maxL' fr' lo' : Nat} {P : Int32 → Int32 → mM → Prop} {Q : Int32 → Int32 → mM → Bool → mM → Prop} (hM : mc_sIIrZ l y cc' maxL' fr' lo' P Q) (h1 : Cond.methodLink RX2 idx y ∈ lw_all) (h2 : Cond.static y ∈ lw_all) (h3 : Cond.initialized y.cls ∈ lw_all) (h5 : Cond.code y cc' maxL' (some .boolean) ∈ lw_all) (hd0 : y.cls ≠ "java/lang/invoke/MethodHandle" ∧ y.cls ≠ "java/lang/invoke/VarHandle" ∧ (parseMethodDescriptor y.desc).map (fun d => d.parameters.length) = some 2) (hR : fr' + 1 ≤ fr ∧ 8 + (maxL' + 11) + lo' ≤ lo) (C : se_Cx p s m args meth c cc nL RX2 ret) (hG : mGl g s) (hI : mInj g) : se_Snd p l e (mRoom fr lo) s m args below meth c Q0 nL g.1 (mRM g H0) cc (.invokestatic idx) 3 (ov_sIIrZ P Q) := by
  refine (oS_ok hM h1 h2 h3 h5 hd0 hR C hG hI).mono fun st M K X h => ?_
  unfold ov_sIIrZ at h
  split at h
  · rename_i a1 a0 r
    exact ⟨[.int a0, .int a1], r, rfl, rfl, h.2.1, ⟨a0, a1, rfl, h.1⟩, fun v M' hp => by
      obtain ⟨x, rfl, hq⟩ := hp a0 a1 rfl
      exact h.2.2 x M' hq⟩
  · exact h.elim
theorem of_sIIrZ_ok {y : MethodName} {cc' : ByteArray} {maxL' fr' lo' : Nat} {P : Int32 → Int32 → mM → Prop} {R : Int32 → Int32 → mM → Bool} {F : Int32 → Int32 → mM → mM} (hM : mc_sIIrZ l y cc' maxL' fr' lo' P (fun a0 a1 M x M' => x = R a0 a1 M ∧ M' = F a0 a1 M)) (h1 : Cond.methodLink RX2 idx y ∈ lw_all) (h2 : Cond.static y ∈ lw_all) (h3 : Cond.initialized y.cls ∈ lw_all) (h5 : Cond.code y cc' maxL' (some .boolean) ∈ lw_all) (hd0 : y.cls ≠ "java/lang/invoke/MethodHandle" ∧ y.cls ≠ "java/lang/invoke/VarHandle" ∧ (parseMethodDescriptor y.desc).map (fun d => d.parameters.length) = some 2) (hR : fr' + 1 ≤ fr ∧ 8 + (maxL' + 11) + lo' ≤ lo) (C : se_Cx p s m args meth c cc nL RX2 ret) (hG : mGl g s) (hI : mInj g) : se_Snd p l e (mRoom fr lo) s m args below meth c Q0 nL g.1 (mRM g H0) cc (.invokestatic idx) 3 (of_sIIrZ P R F) := by
  refine (ov_sIIrZ_ok hM h1 h2 h3 h5 hd0 hR C hG hI).mono fun st M K X h => ?_
  unfold of_sIIrZ at h
  split at h
  · exact ⟨h.1, h.2.1, fun x M' hq => by
      obtain ⟨rfl, rfl⟩ := hq
      exact h.2.2⟩
  · exact h.elim
end
def rt_sIIrZ (Q : Int32 → Int32 → mM → Bool → mM → Prop) (a0 : Int32) (a1 : Int32) (M : mM) : Option Value → mM → Prop := fun v M' => se_nr (some .boolean) v ∧ (fun (av : List Value) (M : mM) (v : Option Value) (M' : mM) => ∀ (a0 : Int32) (a1 : Int32), av = [.int a0, .int a1] → ∃ x, v = some (.int (bI x)) ∧ Q a0 a1 M x M') [.int a0, .int a1] M v M'
theorem rt_sIIrZ_e {Q : Int32 → Int32 → mM → Bool → mM → Prop} {a0 : Int32} {a1 : Int32} {M M' : mM} {z : Int32} : rt_sIIrZ Q a0 a1 M (some (.int z)) M' = (rz z fun x => Q a0 a1 M x M') := by
  apply propext
  constructor
  · intro h
    obtain ⟨x, e, hq⟩ := h.2 a0 a1 rfl
    cases e
    exact ⟨x, rfl, hq⟩
  · intro h
    obtain ⟨x, rfl, hq⟩ := h
    exact ⟨⟨_, rfl, bI_nar x⟩, fun _ _ e => by
      cases e
      exact ⟨x, rfl, hq⟩⟩
theorem mc_sIIrZ_of {l : Launch} {y : MethodName} {cc : ByteArray} {maxL fr lo : Nat} {P : Int32 → Int32 → mM → Prop} {Q : Int32 → Int32 → mM → Bool → mM → Prop} {T : Nat → Nat → se_Op mM} (hy : plainName y.cls = true) (hyc : y.cls = RX2) (hT : mTS l cc maxL (some .boolean) fr lo T) (hL : 2 ≤ maxL)
    (body : ∀ (a0 : Int32) (a1 : Int32) (M : mM), P a0 a1 M → ∀ G : Nat → se_L → List Value → mM → Prop, (∀ (stops : List Nat) (n pc : Nat) (L : se_L) (st : List Value) (M' : mM), wpN False T cc stops G (fun _ _ _ _ => False) (rt_sIIrZ Q a0 a1 M) n pc L st M' → G pc L st M') → G 0 (se_ent [.int a0, .int a1] maxL) [] M) : mc_sIIrZ l y cc maxL fr lo P Q :=
  mOf hy hyc hT (fun av M h => by
    obtain ⟨a0, a1, rfl, _⟩ := h
    exact hL) (fun av M hp G hG => by
    obtain ⟨a0, a1, rfl, hp⟩ := hp
    exact body a0 a1 M hp G hG)
abbrev mc_sIIIrI (l : Launch) (y : MethodName) (cc : ByteArray) (maxL fr lo : Nat) (P : Int32 → Int32 → Int32 → mM → Prop) (Q : Int32 → Int32 → Int32 → mM → Int32 → mM → Prop) : Prop := mCon l y cc maxL (some .int) fr lo (fun av M => ∃ (a0 : Int32) (a1 : Int32) (a2 : Int32), av = [.int a0, .int a1, .int a2] ∧ P a0 a1 a2 M) (fun av M v M' => ∀ (a0 : Int32) (a1 : Int32) (a2 : Int32), av = [.int a0, .int a1, .int a2] → ∃ x, v = some (.int x) ∧ Q a0 a1 a2 M x M')
def ov_sIIIrI (P : Int32 → Int32 → Int32 → mM → Prop) (Q : Int32 → Int32 → Int32 → mM → Int32 → mM → Prop) : se_Op mM := fun st M K _ => match st with
  | .int a2 :: .int a1 :: .int a0 :: r => P a0 a1 a2 M ∧ se_c8 8 r ∧ ∀ x M', Q a0 a1 a2 M x M' → K (.int x :: r) M'
  | _ => False
def of_sIIIrI (P : Int32 → Int32 → Int32 → mM → Prop) (R : Int32 → Int32 → Int32 → mM → Int32) (F : Int32 → Int32 → Int32 → mM → mM) : se_Op mM := fun st M K _ => match st with
  | .int a2 :: .int a1 :: .int a0 :: r => P a0 a1 a2 M ∧ se_c8 8 r ∧ K (.int (R a0 a1 a2 M) :: r) (F a0 a1 a2 M)
  | _ => False
theorem ov_sIIIrI_r {P : Int32 → Int32 → Int32 → mM → Prop} {Q : Int32 → Int32 → Int32 → mM → Int32 → mM → Prop} {a0 : Int32} {a1 : Int32} {a2 : Int32} {r : List Value} {M : mM} {K : List Value → mM → Prop} {X : Nat → mM → Prop} : ov_sIIIrI P Q (.int a2 :: .int a1 :: .int a0 :: r) M K X = (P a0 a1 a2 M ∧ se_c8 8 r ∧ ∀ x M', Q a0 a1 a2 M x M' → K (.int x :: r) M') := rfl
theorem of_sIIIrI_r {P : Int32 → Int32 → Int32 → mM → Prop} {R : Int32 → Int32 → Int32 → mM → Int32} {F : Int32 → Int32 → Int32 → mM → mM} {a0 : Int32} {a1 : Int32} {a2 : Int32} {r : List Value} {M : mM} {K : List Value → mM → Prop} {X : Nat → mM → Prop} : of_sIIIrI P R F (.int a2 :: .int a1 :: .int a0 :: r) M K X = (P a0 a1 a2 M ∧ se_c8 8 r ∧ K (.int (R a0 a1 a2 M) :: r) (F a0 a1 a2 M)) := rfl
section
variable {p : Program} {l : Launch} {e : Env} {s : State} {m : MethodId} {args : Array Value} {below : List Frame} {meth : Method} {c : Code} {nL : Nat} {cc : ByteArray} {ret : Option FieldType} {Q0 : State → Prop} {g : mG} {H0 : Heap} {idx fr lo : Nat}
theorem ov_sIIIrI_ok {y : MethodName} {cc' : ByteArray} {maxL' fr' lo' : Nat} {P : Int32 → Int32 → Int32 → mM → Prop} {Q : Int32 → Int32 → Int32 → mM → Int32 → mM → Prop} (hM : mc_sIIIrI l y cc' maxL' fr' lo' P Q) (h1 : Cond.methodLink RX2 idx y ∈ lw_all) (h2 : Cond.static y ∈ lw_all) (h3 : Cond.initialized y.cls ∈ lw_all) (h5 : Cond.code y cc' maxL' (some .int) ∈ lw_all) (hd0 : y.cls ≠ "java/lang/invoke/MethodHandle" ∧ y.cls ≠ "java/lang/invoke/VarHandle" ∧ (parseMethodDescriptor y.desc).map (fun d => d.parameters.length) = some 3) (hR : fr' + 1 ≤ fr ∧ 8 + (maxL' + 11) + lo' ≤ lo) (C : se_Cx p s m args meth c cc nL RX2 ret) (hG : mGl g s) (hI : mInj g) : se_Snd p l e (mRoom fr lo) s m args below meth c Q0 nL g.1 (mRM g H0) cc (.invokestatic idx) 3 (ov_sIIIrI P Q) := by
  refine (oS_ok hM h1 h2 h3 h5 hd0 hR C hG hI).mono fun st M K X h => ?_
  unfold ov_sIIIrI at h
  split at h
  · rename_i a2 a1 a0 r
    exact ⟨[.int a0, .int a1, .int a2], r, rfl, rfl, h.2.1, ⟨a0, a1, a2, rfl, h.1⟩, fun v M' hp => by
      obtain ⟨x, rfl, hq⟩ := hp a0 a1 a2 rfl
      exact h.2.2 x M' hq⟩
  · exact h.elim
theorem of_sIIIrI_ok {y : MethodName} {cc' : ByteArray} {maxL' fr' lo' : Nat} {P : Int32 → Int32 → Int32 → mM → Prop} {R : Int32 → Int32 → Int32 → mM → Int32} {F : Int32 → Int32 → Int32 → mM → mM} (hM : mc_sIIIrI l y cc' maxL' fr' lo' P (fun a0 a1 a2 M x M' => x = R a0 a1 a2 M ∧ M' = F a0 a1 a2 M)) (h1 : Cond.methodLink RX2 idx y ∈ lw_all) (h2 : Cond.static y ∈ lw_all) (h3 : Cond.initialized y.cls ∈ lw_all) (h5 : Cond.code y cc' maxL' (some .int) ∈ lw_all) (hd0 : y.cls ≠ "java/lang/invoke/MethodHandle" ∧ y.cls ≠ "java/lang/invoke/VarHandle" ∧ (parseMethodDescriptor y.desc).map (fun d => d.parameters.length) = some 3) (hR : fr' + 1 ≤ fr ∧ 8 + (maxL' + 11) + lo' ≤ lo) (C : se_Cx p s m args meth c cc nL RX2 ret) (hG : mGl g s) (hI : mInj g) : se_Snd p l e (mRoom fr lo) s m args below meth c Q0 nL g.1 (mRM g H0) cc (.invokestatic idx) 3 (of_sIIIrI P R F) := by
  refine (ov_sIIIrI_ok hM h1 h2 h3 h5 hd0 hR C hG hI).mono fun st M K X h => ?_
  unfold of_sIIIrI at h
  split at h
  · exact ⟨h.1, h.2.1, fun x M' hq => by
      obtain ⟨rfl, rfl⟩ := hq
      exact h.2.2⟩
  · exact h.elim
end
def rt_sIIIrI (Q : Int32 → Int32 → Int32 → mM → Int32 → mM → Prop) (a0 : Int32) (a1 : Int32) (a2 : Int32) (M : mM) : Option Value → mM → Prop := fun v M' => se_nr (some .int) v ∧ (fun (av : List Value) (M : mM) (v : Option Value) (M' : mM) => ∀ (a0 : Int32) (a1 : Int32) (a2 : Int32), av = [.int a0, .int a1, .int a2] → ∃ x, v = some (.int x) ∧ Q a0 a1 a2 M x M') [.int a0, .int a1, .int a2] M v M'
theorem rt_sIIIrI_e {Q : Int32 → Int32 → Int32 → mM → Int32 → mM → Prop} {a0 : Int32} {a1 : Int32} {a2 : Int32} {M M' : mM} {z : Int32} : rt_sIIIrI Q a0 a1 a2 M (some (.int z)) M' = (Q a0 a1 a2 M z M') := by
  apply propext
  constructor
  · intro h
    obtain ⟨x, e, hq⟩ := h.2 a0 a1 a2 rfl
    cases e
    exact hq
  · intro h
    exact ⟨⟨_, rfl, rfl⟩, fun _ _ _ e => by
      cases e
      exact ⟨z, rfl, h⟩⟩
theorem mc_sIIIrI_of {l : Launch} {y : MethodName} {cc : ByteArray} {maxL fr lo : Nat} {P : Int32 → Int32 → Int32 → mM → Prop} {Q : Int32 → Int32 → Int32 → mM → Int32 → mM → Prop} {T : Nat → Nat → se_Op mM} (hy : plainName y.cls = true) (hyc : y.cls = RX2) (hT : mTS l cc maxL (some .int) fr lo T) (hL : 3 ≤ maxL)
    (body : ∀ (a0 : Int32) (a1 : Int32) (a2 : Int32) (M : mM), P a0 a1 a2 M → ∀ G : Nat → se_L → List Value → mM → Prop, (∀ (stops : List Nat) (n pc : Nat) (L : se_L) (st : List Value) (M' : mM), wpN False T cc stops G (fun _ _ _ _ => False) (rt_sIIIrI Q a0 a1 a2 M) n pc L st M' → G pc L st M') → G 0 (se_ent [.int a0, .int a1, .int a2] maxL) [] M) : mc_sIIIrI l y cc maxL fr lo P Q :=
  mOf hy hyc hT (fun av M h => by
    obtain ⟨a0, a1, a2, rfl, _⟩ := h
    exact hL) (fun av M hp G hG => by
    obtain ⟨a0, a1, a2, rfl, hp⟩ := hp
    exact body a0 a1 a2 M hp G hG)
abbrev mc_sJrI (l : Launch) (y : MethodName) (cc : ByteArray) (maxL fr lo : Nat) (P : Int64 → mM → Prop) (Q : Int64 → mM → Int32 → mM → Prop) : Prop := mCon l y cc maxL (some .int) fr lo (fun av M => ∃ (a0 : Int64), av = [.long a0] ∧ P a0 M) (fun av M v M' => ∀ (a0 : Int64), av = [.long a0] → ∃ x, v = some (.int x) ∧ Q a0 M x M')
def ov_sJrI (P : Int64 → mM → Prop) (Q : Int64 → mM → Int32 → mM → Prop) : se_Op mM := fun st M K _ => match st with
  | .long a0 :: r => P a0 M ∧ se_c8 8 r ∧ ∀ x M', Q a0 M x M' → K (.int x :: r) M'
  | _ => False
def of_sJrI (P : Int64 → mM → Prop) (R : Int64 → mM → Int32) (F : Int64 → mM → mM) : se_Op mM := fun st M K _ => match st with
  | .long a0 :: r => P a0 M ∧ se_c8 8 r ∧ K (.int (R a0 M) :: r) (F a0 M)
  | _ => False
theorem ov_sJrI_r {P : Int64 → mM → Prop} {Q : Int64 → mM → Int32 → mM → Prop} {a0 : Int64} {r : List Value} {M : mM} {K : List Value → mM → Prop} {X : Nat → mM → Prop} : ov_sJrI P Q (.long a0 :: r) M K X = (P a0 M ∧ se_c8 8 r ∧ ∀ x M', Q a0 M x M' → K (.int x :: r) M') := rfl
theorem of_sJrI_r {P : Int64 → mM → Prop} {R : Int64 → mM → Int32} {F : Int64 → mM → mM} {a0 : Int64} {r : List Value} {M : mM} {K : List Value → mM → Prop} {X : Nat → mM → Prop} : of_sJrI P R F (.long a0 :: r) M K X = (P a0 M ∧ se_c8 8 r ∧ K (.int (R a0 M) :: r) (F a0 M)) := rfl
section
variable {p : Program} {l : Launch} {e : Env} {s : State} {m : MethodId} {args : Array Value} {below : List Frame} {meth : Method} {c : Code} {nL : Nat} {cc : ByteArray} {ret : Option FieldType} {Q0 : State → Prop} {g : mG} {H0 : Heap} {idx fr lo : Nat}
theorem ov_sJrI_ok {y : MethodName} {cc' : ByteArray} {maxL' fr' lo' : Nat} {P : Int64 → mM → Prop} {Q : Int64 → mM → Int32 → mM → Prop} (hM : mc_sJrI l y cc' maxL' fr' lo' P Q) (h1 : Cond.methodLink RX2 idx y ∈ lw_all) (h2 : Cond.static y ∈ lw_all) (h3 : Cond.initialized y.cls ∈ lw_all) (h5 : Cond.code y cc' maxL' (some .int) ∈ lw_all) (hd0 : y.cls ≠ "java/lang/invoke/MethodHandle" ∧ y.cls ≠ "java/lang/invoke/VarHandle" ∧ (parseMethodDescriptor y.desc).map (fun d => d.parameters.length) = some 1) (hR : fr' + 1 ≤ fr ∧ 8 + (maxL' + 11) + lo' ≤ lo) (C : se_Cx p s m args meth c cc nL RX2 ret) (hG : mGl g s) (hI : mInj g) : se_Snd p l e (mRoom fr lo) s m args below meth c Q0 nL g.1 (mRM g H0) cc (.invokestatic idx) 3 (ov_sJrI P Q) := by
  refine (oS_ok hM h1 h2 h3 h5 hd0 hR C hG hI).mono fun st M K X h => ?_
  unfold ov_sJrI at h
  split at h
  · rename_i a0 r
    exact ⟨[.long a0], r, rfl, rfl, h.2.1, ⟨a0, rfl, h.1⟩, fun v M' hp => by
      obtain ⟨x, rfl, hq⟩ := hp a0 rfl
      exact h.2.2 x M' hq⟩
  · exact h.elim
theorem of_sJrI_ok {y : MethodName} {cc' : ByteArray} {maxL' fr' lo' : Nat} {P : Int64 → mM → Prop} {R : Int64 → mM → Int32} {F : Int64 → mM → mM} (hM : mc_sJrI l y cc' maxL' fr' lo' P (fun a0 M x M' => x = R a0 M ∧ M' = F a0 M)) (h1 : Cond.methodLink RX2 idx y ∈ lw_all) (h2 : Cond.static y ∈ lw_all) (h3 : Cond.initialized y.cls ∈ lw_all) (h5 : Cond.code y cc' maxL' (some .int) ∈ lw_all) (hd0 : y.cls ≠ "java/lang/invoke/MethodHandle" ∧ y.cls ≠ "java/lang/invoke/VarHandle" ∧ (parseMethodDescriptor y.desc).map (fun d => d.parameters.length) = some 1) (hR : fr' + 1 ≤ fr ∧ 8 + (maxL' + 11) + lo' ≤ lo) (C : se_Cx p s m args meth c cc nL RX2 ret) (hG : mGl g s) (hI : mInj g) : se_Snd p l e (mRoom fr lo) s m args below meth c Q0 nL g.1 (mRM g H0) cc (.invokestatic idx) 3 (of_sJrI P R F) := by
  refine (ov_sJrI_ok hM h1 h2 h3 h5 hd0 hR C hG hI).mono fun st M K X h => ?_
  unfold of_sJrI at h
  split at h
  · exact ⟨h.1, h.2.1, fun x M' hq => by
      obtain ⟨rfl, rfl⟩ := hq
      exact h.2.2⟩
  · exact h.elim
end
def rt_sJrI (Q : Int64 → mM → Int32 → mM → Prop) (a0 : Int64) (M : mM) : Option Value → mM → Prop := fun v M' => se_nr (some .int) v ∧ (fun (av : List Value) (M : mM) (v : Option Value) (M' : mM) => ∀ (a0 : Int64), av = [.long a0] → ∃ x, v = some (.int x) ∧ Q a0 M x M') [.long a0] M v M'
theorem rt_sJrI_e {Q : Int64 → mM → Int32 → mM → Prop} {a0 : Int64} {M M' : mM} {z : Int32} : rt_sJrI Q a0 M (some (.int z)) M' = (Q a0 M z M') := by
  apply propext
  constructor
  · intro h
    obtain ⟨x, e, hq⟩ := h.2 a0 rfl
    cases e
    exact hq
  · intro h
    exact ⟨⟨_, rfl, rfl⟩, fun _ e => by
      cases e
      exact ⟨z, rfl, h⟩⟩
theorem mc_sJrI_of {l : Launch} {y : MethodName} {cc : ByteArray} {maxL fr lo : Nat} {P : Int64 → mM → Prop} {Q : Int64 → mM → Int32 → mM → Prop} {T : Nat → Nat → se_Op mM} (hy : plainName y.cls = true) (hyc : y.cls = RX2) (hT : mTS l cc maxL (some .int) fr lo T) (hL : 2 ≤ maxL)
    (body : ∀ (a0 : Int64) (M : mM), P a0 M → ∀ G : Nat → se_L → List Value → mM → Prop, (∀ (stops : List Nat) (n pc : Nat) (L : se_L) (st : List Value) (M' : mM), wpN False T cc stops G (fun _ _ _ _ => False) (rt_sJrI Q a0 M) n pc L st M' → G pc L st M') → G 0 (se_ent [.long a0] maxL) [] M) : mc_sJrI l y cc maxL fr lo P Q :=
  mOf hy hyc hT (fun av M h => by
    obtain ⟨a0, rfl, _⟩ := h
    exact hL) (fun av M hp G hG => by
    obtain ⟨a0, rfl, hp⟩ := hp
    exact body a0 M hp G hG)
abbrev mc_sJrJ (l : Launch) (y : MethodName) (cc : ByteArray) (maxL fr lo : Nat) (P : Int64 → mM → Prop) (Q : Int64 → mM → Int64 → mM → Prop) : Prop := mCon l y cc maxL (some .long) fr lo (fun av M => ∃ (a0 : Int64), av = [.long a0] ∧ P a0 M) (fun av M v M' => ∀ (a0 : Int64), av = [.long a0] → ∃ x, v = some (.long x) ∧ Q a0 M x M')
def ov_sJrJ (P : Int64 → mM → Prop) (Q : Int64 → mM → Int64 → mM → Prop) : se_Op mM := fun st M K _ => match st with
  | .long a0 :: r => P a0 M ∧ se_c8 8 r ∧ ∀ x M', Q a0 M x M' → K (.long x :: r) M'
  | _ => False
def of_sJrJ (P : Int64 → mM → Prop) (R : Int64 → mM → Int64) (F : Int64 → mM → mM) : se_Op mM := fun st M K _ => match st with
  | .long a0 :: r => P a0 M ∧ se_c8 8 r ∧ K (.long (R a0 M) :: r) (F a0 M)
  | _ => False
theorem ov_sJrJ_r {P : Int64 → mM → Prop} {Q : Int64 → mM → Int64 → mM → Prop} {a0 : Int64} {r : List Value} {M : mM} {K : List Value → mM → Prop} {X : Nat → mM → Prop} : ov_sJrJ P Q (.long a0 :: r) M K X = (P a0 M ∧ se_c8 8 r ∧ ∀ x M', Q a0 M x M' → K (.long x :: r) M') := rfl
theorem of_sJrJ_r {P : Int64 → mM → Prop} {R : Int64 → mM → Int64} {F : Int64 → mM → mM} {a0 : Int64} {r : List Value} {M : mM} {K : List Value → mM → Prop} {X : Nat → mM → Prop} : of_sJrJ P R F (.long a0 :: r) M K X = (P a0 M ∧ se_c8 8 r ∧ K (.long (R a0 M) :: r) (F a0 M)) := rfl
section
variable {p : Program} {l : Launch} {e : Env} {s : State} {m : MethodId} {args : Array Value} {below : List Frame} {meth : Method} {c : Code} {nL : Nat} {cc : ByteArray} {ret : Option FieldType} {Q0 : State → Prop} {g : mG} {H0 : Heap} {idx fr lo : Nat}
theorem ov_sJrJ_ok {y : MethodName} {cc' : ByteArray} {maxL' fr' lo' : Nat} {P : Int64 → mM → Prop} {Q : Int64 → mM → Int64 → mM → Prop} (hM : mc_sJrJ l y cc' maxL' fr' lo' P Q) (h1 : Cond.methodLink RX2 idx y ∈ lw_all) (h2 : Cond.static y ∈ lw_all) (h3 : Cond.initialized y.cls ∈ lw_all) (h5 : Cond.code y cc' maxL' (some .long) ∈ lw_all) (hd0 : y.cls ≠ "java/lang/invoke/MethodHandle" ∧ y.cls ≠ "java/lang/invoke/VarHandle" ∧ (parseMethodDescriptor y.desc).map (fun d => d.parameters.length) = some 1) (hR : fr' + 1 ≤ fr ∧ 8 + (maxL' + 11) + lo' ≤ lo) (C : se_Cx p s m args meth c cc nL RX2 ret) (hG : mGl g s) (hI : mInj g) : se_Snd p l e (mRoom fr lo) s m args below meth c Q0 nL g.1 (mRM g H0) cc (.invokestatic idx) 3 (ov_sJrJ P Q) := by
  refine (oS_ok hM h1 h2 h3 h5 hd0 hR C hG hI).mono fun st M K X h => ?_
  unfold ov_sJrJ at h
  split at h
  · rename_i a0 r
    exact ⟨[.long a0], r, rfl, rfl, h.2.1, ⟨a0, rfl, h.1⟩, fun v M' hp => by
      obtain ⟨x, rfl, hq⟩ := hp a0 rfl
      exact h.2.2 x M' hq⟩
  · exact h.elim
theorem of_sJrJ_ok {y : MethodName} {cc' : ByteArray} {maxL' fr' lo' : Nat} {P : Int64 → mM → Prop} {R : Int64 → mM → Int64} {F : Int64 → mM → mM} (hM : mc_sJrJ l y cc' maxL' fr' lo' P (fun a0 M x M' => x = R a0 M ∧ M' = F a0 M)) (h1 : Cond.methodLink RX2 idx y ∈ lw_all) (h2 : Cond.static y ∈ lw_all) (h3 : Cond.initialized y.cls ∈ lw_all) (h5 : Cond.code y cc' maxL' (some .long) ∈ lw_all) (hd0 : y.cls ≠ "java/lang/invoke/MethodHandle" ∧ y.cls ≠ "java/lang/invoke/VarHandle" ∧ (parseMethodDescriptor y.desc).map (fun d => d.parameters.length) = some 1) (hR : fr' + 1 ≤ fr ∧ 8 + (maxL' + 11) + lo' ≤ lo) (C : se_Cx p s m args meth c cc nL RX2 ret) (hG : mGl g s) (hI : mInj g) : se_Snd p l e (mRoom fr lo) s m args below meth c Q0 nL g.1 (mRM g H0) cc (.invokestatic idx) 3 (of_sJrJ P R F) := by
  refine (ov_sJrJ_ok hM h1 h2 h3 h5 hd0 hR C hG hI).mono fun st M K X h => ?_
  unfold of_sJrJ at h
  split at h
  · exact ⟨h.1, h.2.1, fun x M' hq => by
      obtain ⟨rfl, rfl⟩ := hq
      exact h.2.2⟩
  · exact h.elim
end
def rt_sJrJ (Q : Int64 → mM → Int64 → mM → Prop) (a0 : Int64) (M : mM) : Option Value → mM → Prop := fun v M' => se_nr (some .long) v ∧ (fun (av : List Value) (M : mM) (v : Option Value) (M' : mM) => ∀ (a0 : Int64), av = [.long a0] → ∃ x, v = some (.long x) ∧ Q a0 M x M') [.long a0] M v M'
theorem rt_sJrJ_e {Q : Int64 → mM → Int64 → mM → Prop} {a0 : Int64} {M M' : mM} {z : Int64} : rt_sJrJ Q a0 M (some (.long z)) M' = (Q a0 M z M') := by
  apply propext
  constructor
  · intro h
    obtain ⟨x, e, hq⟩ := h.2 a0 rfl
    cases e
    exact hq
  · intro h
    exact ⟨rfl, fun _ e => by
      cases e
      exact ⟨z, rfl, h⟩⟩
theorem mc_sJrJ_of {l : Launch} {y : MethodName} {cc : ByteArray} {maxL fr lo : Nat} {P : Int64 → mM → Prop} {Q : Int64 → mM → Int64 → mM → Prop} {T : Nat → Nat → se_Op mM} (hy : plainName y.cls = true) (hyc : y.cls = RX2) (hT : mTS l cc maxL (some .long) fr lo T) (hL : 2 ≤ maxL)
    (body : ∀ (a0 : Int64) (M : mM), P a0 M → ∀ G : Nat → se_L → List Value → mM → Prop, (∀ (stops : List Nat) (n pc : Nat) (L : se_L) (st : List Value) (M' : mM), wpN False T cc stops G (fun _ _ _ _ => False) (rt_sJrJ Q a0 M) n pc L st M' → G pc L st M') → G 0 (se_ent [.long a0] maxL) [] M) : mc_sJrJ l y cc maxL fr lo P Q :=
  mOf hy hyc hT (fun av M h => by
    obtain ⟨a0, rfl, _⟩ := h
    exact hL) (fun av M hp G hG => by
    obtain ⟨a0, rfl, hp⟩ := hp
    exact body a0 M hp G hG)
abbrev mc_sJJrJ (l : Launch) (y : MethodName) (cc : ByteArray) (maxL fr lo : Nat) (P : Int64 → Int64 → mM → Prop) (Q : Int64 → Int64 → mM → Int64 → mM → Prop) : Prop := mCon l y cc maxL (some .long) fr lo (fun av M => ∃ (a0 : Int64) (a1 : Int64), av = [.long a0, .long a1] ∧ P a0 a1 M) (fun av M v M' => ∀ (a0 : Int64) (a1 : Int64), av = [.long a0, .long a1] → ∃ x, v = some (.long x) ∧ Q a0 a1 M x M')
def ov_sJJrJ (P : Int64 → Int64 → mM → Prop) (Q : Int64 → Int64 → mM → Int64 → mM → Prop) : se_Op mM := fun st M K _ => match st with
  | .long a1 :: .long a0 :: r => P a0 a1 M ∧ se_c8 8 r ∧ ∀ x M', Q a0 a1 M x M' → K (.long x :: r) M'
  | _ => False
def of_sJJrJ (P : Int64 → Int64 → mM → Prop) (R : Int64 → Int64 → mM → Int64) (F : Int64 → Int64 → mM → mM) : se_Op mM := fun st M K _ => match st with
  | .long a1 :: .long a0 :: r => P a0 a1 M ∧ se_c8 8 r ∧ K (.long (R a0 a1 M) :: r) (F a0 a1 M)
  | _ => False
theorem ov_sJJrJ_r {P : Int64 → Int64 → mM → Prop} {Q : Int64 → Int64 → mM → Int64 → mM → Prop} {a0 : Int64} {a1 : Int64} {r : List Value} {M : mM} {K : List Value → mM → Prop} {X : Nat → mM → Prop} : ov_sJJrJ P Q (.long a1 :: .long a0 :: r) M K X = (P a0 a1 M ∧ se_c8 8 r ∧ ∀ x M', Q a0 a1 M x M' → K (.long x :: r) M') := rfl
theorem of_sJJrJ_r {P : Int64 → Int64 → mM → Prop} {R : Int64 → Int64 → mM → Int64} {F : Int64 → Int64 → mM → mM} {a0 : Int64} {a1 : Int64} {r : List Value} {M : mM} {K : List Value → mM → Prop} {X : Nat → mM → Prop} : of_sJJrJ P R F (.long a1 :: .long a0 :: r) M K X = (P a0 a1 M ∧ se_c8 8 r ∧ K (.long (R a0 a1 M) :: r) (F a0 a1 M)) := rfl
section
variable {p : Program} {l : Launch} {e : Env} {s : State} {m : MethodId} {args : Array Value} {below : List Frame} {meth : Method} {c : Code} {nL : Nat} {cc : ByteArray} {ret : Option FieldType} {Q0 : State → Prop} {g : mG} {H0 : Heap} {idx fr lo : Nat}
theorem ov_sJJrJ_ok {y : MethodName} {cc' : ByteArray} {maxL' fr' lo' : Nat} {P : Int64 → Int64 → mM → Prop} {Q : Int64 → Int64 → mM → Int64 → mM → Prop} (hM : mc_sJJrJ l y cc' maxL' fr' lo' P Q) (h1 : Cond.methodLink RX2 idx y ∈ lw_all) (h2 : Cond.static y ∈ lw_all) (h3 : Cond.initialized y.cls ∈ lw_all) (h5 : Cond.code y cc' maxL' (some .long) ∈ lw_all) (hd0 : y.cls ≠ "java/lang/invoke/MethodHandle" ∧ y.cls ≠ "java/lang/invoke/VarHandle" ∧ (parseMethodDescriptor y.desc).map (fun d => d.parameters.length) = some 2) (hR : fr' + 1 ≤ fr ∧ 8 + (maxL' + 11) + lo' ≤ lo) (C : se_Cx p s m args meth c cc nL RX2 ret) (hG : mGl g s) (hI : mInj g) : se_Snd p l e (mRoom fr lo) s m args below meth c Q0 nL g.1 (mRM g H0) cc (.invokestatic idx) 3 (ov_sJJrJ P Q) := by
  refine (oS_ok hM h1 h2 h3 h5 hd0 hR C hG hI).mono fun st M K X h => ?_
  unfold ov_sJJrJ at h
  split at h
  · rename_i a1 a0 r
    exact ⟨[.long a0, .long a1], r, rfl, rfl, h.2.1, ⟨a0, a1, rfl, h.1⟩, fun v M' hp => by
      obtain ⟨x, rfl, hq⟩ := hp a0 a1 rfl
      exact h.2.2 x M' hq⟩
  · exact h.elim
theorem of_sJJrJ_ok {y : MethodName} {cc' : ByteArray} {maxL' fr' lo' : Nat} {P : Int64 → Int64 → mM → Prop} {R : Int64 → Int64 → mM → Int64} {F : Int64 → Int64 → mM → mM} (hM : mc_sJJrJ l y cc' maxL' fr' lo' P (fun a0 a1 M x M' => x = R a0 a1 M ∧ M' = F a0 a1 M)) (h1 : Cond.methodLink RX2 idx y ∈ lw_all) (h2 : Cond.static y ∈ lw_all) (h3 : Cond.initialized y.cls ∈ lw_all) (h5 : Cond.code y cc' maxL' (some .long) ∈ lw_all) (hd0 : y.cls ≠ "java/lang/invoke/MethodHandle" ∧ y.cls ≠ "java/lang/invoke/VarHandle" ∧ (parseMethodDescriptor y.desc).map (fun d => d.parameters.length) = some 2) (hR : fr' + 1 ≤ fr ∧ 8 + (maxL' + 11) + lo' ≤ lo) (C : se_Cx p s m args meth c cc nL RX2 ret) (hG : mGl g s) (hI : mInj g) : se_Snd p l e (mRoom fr lo) s m args below meth c Q0 nL g.1 (mRM g H0) cc (.invokestatic idx) 3 (of_sJJrJ P R F) := by
  refine (ov_sJJrJ_ok hM h1 h2 h3 h5 hd0 hR C hG hI).mono fun st M K X h => ?_
  unfold of_sJJrJ at h
  split at h
  · exact ⟨h.1, h.2.1, fun x M' hq => by
      obtain ⟨rfl, rfl⟩ := hq
      exact h.2.2⟩
  · exact h.elim
end
def rt_sJJrJ (Q : Int64 → Int64 → mM → Int64 → mM → Prop) (a0 : Int64) (a1 : Int64) (M : mM) : Option Value → mM → Prop := fun v M' => se_nr (some .long) v ∧ (fun (av : List Value) (M : mM) (v : Option Value) (M' : mM) => ∀ (a0 : Int64) (a1 : Int64), av = [.long a0, .long a1] → ∃ x, v = some (.long x) ∧ Q a0 a1 M x M') [.long a0, .long a1] M v M'
theorem rt_sJJrJ_e {Q : Int64 → Int64 → mM → Int64 → mM → Prop} {a0 : Int64} {a1 : Int64} {M M' : mM} {z : Int64} : rt_sJJrJ Q a0 a1 M (some (.long z)) M' = (Q a0 a1 M z M') := by
  apply propext
  constructor
  · intro h
    obtain ⟨x, e, hq⟩ := h.2 a0 a1 rfl
    cases e
    exact hq
  · intro h
    exact ⟨rfl, fun _ _ e => by
      cases e
      exact ⟨z, rfl, h⟩⟩
theorem mc_sJJrJ_of {l : Launch} {y : MethodName} {cc : ByteArray} {maxL fr lo : Nat} {P : Int64 → Int64 → mM → Prop} {Q : Int64 → Int64 → mM → Int64 → mM → Prop} {T : Nat → Nat → se_Op mM} (hy : plainName y.cls = true) (hyc : y.cls = RX2) (hT : mTS l cc maxL (some .long) fr lo T) (hL : 4 ≤ maxL)
    (body : ∀ (a0 : Int64) (a1 : Int64) (M : mM), P a0 a1 M → ∀ G : Nat → se_L → List Value → mM → Prop, (∀ (stops : List Nat) (n pc : Nat) (L : se_L) (st : List Value) (M' : mM), wpN False T cc stops G (fun _ _ _ _ => False) (rt_sJJrJ Q a0 a1 M) n pc L st M' → G pc L st M') → G 0 (se_ent [.long a0, .long a1] maxL) [] M) : mc_sJJrJ l y cc maxL fr lo P Q :=
  mOf hy hyc hT (fun av M h => by
    obtain ⟨a0, a1, rfl, _⟩ := h
    exact hL) (fun av M hp G hG => by
    obtain ⟨a0, a1, rfl, hp⟩ := hp
    exact body a0 a1 M hp G hG)
abbrev mc_sJJJJrJ (l : Launch) (y : MethodName) (cc : ByteArray) (maxL fr lo : Nat) (P : Int64 → Int64 → Int64 → Int64 → mM → Prop) (Q : Int64 → Int64 → Int64 → Int64 → mM → Int64 → mM → Prop) : Prop := mCon l y cc maxL (some .long) fr lo (fun av M => ∃ (a0 : Int64) (a1 : Int64) (a2 : Int64) (a3 : Int64), av = [.long a0, .long a1, .long a2, .long a3] ∧ P a0 a1 a2 a3 M) (fun av M v M' => ∀ (a0 : Int64) (a1 : Int64) (a2 : Int64) (a3 : Int64), av = [.long a0, .long a1, .long a2, .long a3] → ∃ x, v = some (.long x) ∧ Q a0 a1 a2 a3 M x M')
def ov_sJJJJrJ (P : Int64 → Int64 → Int64 → Int64 → mM → Prop) (Q : Int64 → Int64 → Int64 → Int64 → mM → Int64 → mM → Prop) : se_Op mM := fun st M K _ => match st with
  | .long a3 :: .long a2 :: .long a1 :: .long a0 :: r => P a0 a1 a2 a3 M ∧ se_c8 8 r ∧ ∀ x M', Q a0 a1 a2 a3 M x M' → K (.long x :: r) M'
  | _ => False
def of_sJJJJrJ (P : Int64 → Int64 → Int64 → Int64 → mM → Prop) (R : Int64 → Int64 → Int64 → Int64 → mM → Int64) (F : Int64 → Int64 → Int64 → Int64 → mM → mM) : se_Op mM := fun st M K _ => match st with
  | .long a3 :: .long a2 :: .long a1 :: .long a0 :: r => P a0 a1 a2 a3 M ∧ se_c8 8 r ∧ K (.long (R a0 a1 a2 a3 M) :: r) (F a0 a1 a2 a3 M)
  | _ => False
theorem ov_sJJJJrJ_r {P : Int64 → Int64 → Int64 → Int64 → mM → Prop} {Q : Int64 → Int64 → Int64 → Int64 → mM → Int64 → mM → Prop} {a0 : Int64} {a1 : Int64} {a2 : Int64} {a3 : Int64} {r : List Value} {M : mM} {K : List Value → mM → Prop} {X : Nat → mM → Prop} : ov_sJJJJrJ P Q (.long a3 :: .long a2 :: .long a1 :: .long a0 :: r) M K X = (P a0 a1 a2 a3 M ∧ se_c8 8 r ∧ ∀ x M', Q a0 a1 a2 a3 M x M' → K (.long x :: r) M') := rfl
theorem of_sJJJJrJ_r {P : Int64 → Int64 → Int64 → Int64 → mM → Prop} {R : Int64 → Int64 → Int64 → Int64 → mM → Int64} {F : Int64 → Int64 → Int64 → Int64 → mM → mM} {a0 : Int64} {a1 : Int64} {a2 : Int64} {a3 : Int64} {r : List Value} {M : mM} {K : List Value → mM → Prop} {X : Nat → mM → Prop} : of_sJJJJrJ P R F (.long a3 :: .long a2 :: .long a1 :: .long a0 :: r) M K X = (P a0 a1 a2 a3 M ∧ se_c8 8 r ∧ K (.long (R a0 a1 a2 a3 M) :: r) (F a0 a1 a2 a3 M)) := rfl
section
variable {p : Program} {l : Launch} {e : Env} {s : State} {m : MethodId} {args : Array Value} {below : List Frame} {meth : Method} {c : Code} {nL : Nat} {cc : ByteArray} {ret : Option FieldType} {Q0 : State → Prop} {g : mG} {H0 : Heap} {idx fr lo : Nat}
theorem ov_sJJJJrJ_ok {y : MethodName} {cc' : ByteArray} {maxL' fr' lo' : Nat} {P : Int64 → Int64 → Int64 → Int64 → mM → Prop} {Q : Int64 → Int64 → Int64 → Int64 → mM → Int64 → mM → Prop} (hM : mc_sJJJJrJ l y cc' maxL' fr' lo' P Q) (h1 : Cond.methodLink RX2 idx y ∈ lw_all) (h2 : Cond.static y ∈ lw_all) (h3 : Cond.initialized y.cls ∈ lw_all) (h5 : Cond.code y cc' maxL' (some .long) ∈ lw_all) (hd0 : y.cls ≠ "java/lang/invoke/MethodHandle" ∧ y.cls ≠ "java/lang/invoke/VarHandle" ∧ (parseMethodDescriptor y.desc).map (fun d => d.parameters.length) = some 4) (hR : fr' + 1 ≤ fr ∧ 8 + (maxL' + 11) + lo' ≤ lo) (C : se_Cx p s m args meth c cc nL RX2 ret) (hG : mGl g s) (hI : mInj g) : se_Snd p l e (mRoom fr lo) s m args below meth c Q0 nL g.1 (mRM g H0) cc (.invokestatic idx) 3 (ov_sJJJJrJ P Q) := by
  refine (oS_ok hM h1 h2 h3 h5 hd0 hR C hG hI).mono fun st M K X h => ?_
  unfold ov_sJJJJrJ at h
  split at h
  · rename_i a3 a2 a1 a0 r
    exact ⟨[.long a0, .long a1, .long a2, .long a3], r, rfl, rfl, h.2.1, ⟨a0, a1, a2, a3, rfl, h.1⟩, fun v M' hp => by
      obtain ⟨x, rfl, hq⟩ := hp a0 a1 a2 a3 rfl
      exact h.2.2 x M' hq⟩
  · exact h.elim
theorem of_sJJJJrJ_ok {y : MethodName} {cc' : ByteArray} {maxL' fr' lo' : Nat} {P : Int64 → Int64 → Int64 → Int64 → mM → Prop} {R : Int64 → Int64 → Int64 → Int64 → mM → Int64} {F : Int64 → Int64 → Int64 → Int64 → mM → mM} (hM : mc_sJJJJrJ l y cc' maxL' fr' lo' P (fun a0 a1 a2 a3 M x M' => x = R a0 a1 a2 a3 M ∧ M' = F a0 a1 a2 a3 M)) (h1 : Cond.methodLink RX2 idx y ∈ lw_all) (h2 : Cond.static y ∈ lw_all) (h3 : Cond.initialized y.cls ∈ lw_all) (h5 : Cond.code y cc' maxL' (some .long) ∈ lw_all) (hd0 : y.cls ≠ "java/lang/invoke/MethodHandle" ∧ y.cls ≠ "java/lang/invoke/VarHandle" ∧ (parseMethodDescriptor y.desc).map (fun d => d.parameters.length) = some 4) (hR : fr' + 1 ≤ fr ∧ 8 + (maxL' + 11) + lo' ≤ lo) (C : se_Cx p s m args meth c cc nL RX2 ret) (hG : mGl g s) (hI : mInj g) : se_Snd p l e (mRoom fr lo) s m args below meth c Q0 nL g.1 (mRM g H0) cc (.invokestatic idx) 3 (of_sJJJJrJ P R F) := by
  refine (ov_sJJJJrJ_ok hM h1 h2 h3 h5 hd0 hR C hG hI).mono fun st M K X h => ?_
  unfold of_sJJJJrJ at h
  split at h
  · exact ⟨h.1, h.2.1, fun x M' hq => by
      obtain ⟨rfl, rfl⟩ := hq
      exact h.2.2⟩
  · exact h.elim
end
def rt_sJJJJrJ (Q : Int64 → Int64 → Int64 → Int64 → mM → Int64 → mM → Prop) (a0 : Int64) (a1 : Int64) (a2 : Int64) (a3 : Int64) (M : mM) : Option Value → mM → Prop := fun v M' => se_nr (some .long) v ∧ (fun (av : List Value) (M : mM) (v : Option Value) (M' : mM) => ∀ (a0 : Int64) (a1 : Int64) (a2 : Int64) (a3 : Int64), av = [.long a0, .long a1, .long a2, .long a3] → ∃ x, v = some (.long x) ∧ Q a0 a1 a2 a3 M x M') [.long a0, .long a1, .long a2, .long a3] M v M'
theorem rt_sJJJJrJ_e {Q : Int64 → Int64 → Int64 → Int64 → mM → Int64 → mM → Prop} {a0 : Int64} {a1 : Int64} {a2 : Int64} {a3 : Int64} {M M' : mM} {z : Int64} : rt_sJJJJrJ Q a0 a1 a2 a3 M (some (.long z)) M' = (Q a0 a1 a2 a3 M z M') := by
  apply propext
  constructor
  · intro h
    obtain ⟨x, e, hq⟩ := h.2 a0 a1 a2 a3 rfl
    cases e
    exact hq
  · intro h
    exact ⟨rfl, fun _ _ _ _ e => by
      cases e
      exact ⟨z, rfl, h⟩⟩
theorem mc_sJJJJrJ_of {l : Launch} {y : MethodName} {cc : ByteArray} {maxL fr lo : Nat} {P : Int64 → Int64 → Int64 → Int64 → mM → Prop} {Q : Int64 → Int64 → Int64 → Int64 → mM → Int64 → mM → Prop} {T : Nat → Nat → se_Op mM} (hy : plainName y.cls = true) (hyc : y.cls = RX2) (hT : mTS l cc maxL (some .long) fr lo T) (hL : 8 ≤ maxL)
    (body : ∀ (a0 : Int64) (a1 : Int64) (a2 : Int64) (a3 : Int64) (M : mM), P a0 a1 a2 a3 M → ∀ G : Nat → se_L → List Value → mM → Prop, (∀ (stops : List Nat) (n pc : Nat) (L : se_L) (st : List Value) (M' : mM), wpN False T cc stops G (fun _ _ _ _ => False) (rt_sJJJJrJ Q a0 a1 a2 a3 M) n pc L st M' → G pc L st M') → G 0 (se_ent [.long a0, .long a1, .long a2, .long a3] maxL) [] M) : mc_sJJJJrJ l y cc maxL fr lo P Q :=
  mOf hy hyc hT (fun av M h => by
    obtain ⟨a0, a1, a2, a3, rfl, _⟩ := h
    exact hL) (fun av M hp G hG => by
    obtain ⟨a0, a1, a2, a3, rfl, hp⟩ := hp
    exact body a0 a1 a2 a3 M hp G hG)
abbrev mc_vrI (l : Launch) (y : MethodName) (cc : ByteArray) (maxL fr lo : Nat) (P : mM → Prop) (Q : mM → Int32 → mM → Prop) : Prop := mCon l y cc maxL (some .int) fr lo (fun av M => av = [.ref 0] ∧ P M) (fun av M v M' => av = [.ref 0] → ∃ x, v = some (.int x) ∧ Q M x M')
def ov_vrI (P : mM → Prop) (Q : mM → Int32 → mM → Prop) : se_Op mM := fun st M K _ => match st with
  | .ref 0 :: r => P M ∧ se_c8 8 r ∧ ∀ x M', Q M x M' → K (.int x :: r) M'
  | _ => False
def of_vrI (P : mM → Prop) (R : mM → Int32) (F : mM → mM) : se_Op mM := fun st M K _ => match st with
  | .ref 0 :: r => P M ∧ se_c8 8 r ∧ K (.int (R M) :: r) (F M)
  | _ => False
theorem ov_vrI_r {P : mM → Prop} {Q : mM → Int32 → mM → Prop}  {r : List Value} {M : mM} {K : List Value → mM → Prop} {X : Nat → mM → Prop} : ov_vrI P Q (.ref 0 :: r) M K X = (P M ∧ se_c8 8 r ∧ ∀ x M', Q M x M' → K (.int x :: r) M') := rfl
theorem of_vrI_r {P : mM → Prop} {R : mM → Int32} {F : mM → mM}  {r : List Value} {M : mM} {K : List Value → mM → Prop} {X : Nat → mM → Prop} : of_vrI P R F (.ref 0 :: r) M K X = (P M ∧ se_c8 8 r ∧ K (.int (R M) :: r) (F M)) := rfl
section
variable {p : Program} {l : Launch} {e : Env} {s : State} {m : MethodId} {args : Array Value} {below : List Frame} {meth : Method} {c : Code} {nL : Nat} {cc : ByteArray} {ret : Option FieldType} {Q0 : State → Prop} {g : mG} {H0 : Heap} {idx fr lo : Nat}
theorem ov_vrI_ok {y : MethodName} {cc' : ByteArray} {maxL' fr' lo' : Nat} {P : mM → Prop} {Q : mM → Int32 → mM → Prop} (hM : mc_vrI l y cc' maxL' fr' lo' P Q) (h1 : Cond.methodLink RX2 idx y ∈ lw_all) (h2 : Cond.instanceMethod y ∈ lw_all) (h3 : Cond.selects RX2 y y ∈ lw_all) (h4 : Cond.initialized RX2 ∈ lw_all) (h5 : Cond.code y cc' maxL' (some .int) ∈ lw_all) (hd0 : y.cls = RX2 ∧ y.cls ≠ "java/lang/invoke/MethodHandle" ∧ y.cls ≠ "java/lang/invoke/VarHandle" ∧ (parseMethodDescriptor y.desc).map (fun d => d.parameters.length) = some 0) (hR : fr' + 1 ≤ fr ∧ 8 + (maxL' + 11) + lo' ≤ lo) (C : se_Cx p s m args meth c cc nL RX2 ret) (hG : mGl g s) (hI : mInj g) : se_Snd p l e (mRoom fr lo) s m args below meth c Q0 nL g.1 (mRM g H0) cc (.invokevirtual idx) 3 (ov_vrI P Q) := by
  refine (oC_ok hM h1 h2 h3 h4 h5 hd0 hR C hG hI).mono fun st M K X h => ?_
  unfold ov_vrI at h
  split at h
  · rename_i r
    exact ⟨[], r, rfl, rfl, h.2.1, ⟨rfl, h.1⟩, fun v M' hp => by
      obtain ⟨x, rfl, hq⟩ := hp rfl
      exact h.2.2 x M' hq⟩
  · exact h.elim
theorem of_vrI_ok {y : MethodName} {cc' : ByteArray} {maxL' fr' lo' : Nat} {P : mM → Prop} {R : mM → Int32} {F : mM → mM} (hM : mc_vrI l y cc' maxL' fr' lo' P (fun M x M' => x = R M ∧ M' = F M)) (h1 : Cond.methodLink RX2 idx y ∈ lw_all) (h2 : Cond.instanceMethod y ∈ lw_all) (h3 : Cond.selects RX2 y y ∈ lw_all) (h4 : Cond.initialized RX2 ∈ lw_all) (h5 : Cond.code y cc' maxL' (some .int) ∈ lw_all) (hd0 : y.cls = RX2 ∧ y.cls ≠ "java/lang/invoke/MethodHandle" ∧ y.cls ≠ "java/lang/invoke/VarHandle" ∧ (parseMethodDescriptor y.desc).map (fun d => d.parameters.length) = some 0) (hR : fr' + 1 ≤ fr ∧ 8 + (maxL' + 11) + lo' ≤ lo) (C : se_Cx p s m args meth c cc nL RX2 ret) (hG : mGl g s) (hI : mInj g) : se_Snd p l e (mRoom fr lo) s m args below meth c Q0 nL g.1 (mRM g H0) cc (.invokevirtual idx) 3 (of_vrI P R F) := by
  refine (ov_vrI_ok hM h1 h2 h3 h4 h5 hd0 hR C hG hI).mono fun st M K X h => ?_
  unfold of_vrI at h
  split at h
  · exact ⟨h.1, h.2.1, fun x M' hq => by
      obtain ⟨rfl, rfl⟩ := hq
      exact h.2.2⟩
  · exact h.elim
end
def rt_vrI (Q : mM → Int32 → mM → Prop)  (M : mM) : Option Value → mM → Prop := fun v M' => se_nr (some .int) v ∧ (fun (av : List Value) (M : mM) (v : Option Value) (M' : mM) => av = [.ref 0] → ∃ x, v = some (.int x) ∧ Q M x M') [.ref 0] M v M'
theorem rt_vrI_e {Q : mM → Int32 → mM → Prop}  {M M' : mM} {z : Int32} : rt_vrI Q M (some (.int z)) M' = (Q M z M') := by
  apply propext
  constructor
  · intro h
    obtain ⟨x, e, hq⟩ := h.2  rfl
    cases e
    exact hq
  · intro h
    exact ⟨⟨_, rfl, rfl⟩, fun _ => ⟨z, rfl, h⟩⟩
theorem mc_vrI_of {l : Launch} {y : MethodName} {cc : ByteArray} {maxL fr lo : Nat} {P : mM → Prop} {Q : mM → Int32 → mM → Prop} {T : Nat → Nat → se_Op mM} (hy : plainName y.cls = true) (hyc : y.cls = RX2) (hT : mTS l cc maxL (some .int) fr lo T) (hL : 1 ≤ maxL)
    (body : ∀  (M : mM), P M → ∀ G : Nat → se_L → List Value → mM → Prop, (∀ (stops : List Nat) (n pc : Nat) (L : se_L) (st : List Value) (M' : mM), wpN False T cc stops G (fun _ _ _ _ => False) (rt_vrI Q M) n pc L st M' → G pc L st M') → G 0 (se_ent [.ref 0] maxL) [] M) : mc_vrI l y cc maxL fr lo P Q :=
  mOf hy hyc hT (fun av M h => by
    obtain ⟨rfl, _⟩ := h
    exact hL) (fun av M hp G hG => by
    obtain ⟨rfl, hp⟩ := hp
    exact body  M hp G hG)
abbrev mc_vrV (l : Launch) (y : MethodName) (cc : ByteArray) (maxL fr lo : Nat) (P : mM → Prop) (Q : mM → mM → Prop) : Prop := mCon l y cc maxL none fr lo (fun av M => av = [.ref 0] ∧ P M) (fun av M v M' => av = [.ref 0] → v = none ∧ Q M M')
def ov_vrV (P : mM → Prop) (Q : mM → mM → Prop) : se_Op mM := fun st M K _ => match st with
  | .ref 0 :: r => P M ∧ se_c8 8 r ∧ ∀ M', Q M M' → K r M'
  | _ => False
def of_vrV (P : mM → Prop) (F : mM → mM) : se_Op mM := fun st M K _ => match st with
  | .ref 0 :: r => P M ∧ se_c8 8 r ∧ K r (F M)
  | _ => False
theorem ov_vrV_r {P : mM → Prop} {Q : mM → mM → Prop}  {r : List Value} {M : mM} {K : List Value → mM → Prop} {X : Nat → mM → Prop} : ov_vrV P Q (.ref 0 :: r) M K X = (P M ∧ se_c8 8 r ∧ ∀ M', Q M M' → K r M') := rfl
theorem of_vrV_r {P : mM → Prop} {F : mM → mM}  {r : List Value} {M : mM} {K : List Value → mM → Prop} {X : Nat → mM → Prop} : of_vrV P F (.ref 0 :: r) M K X = (P M ∧ se_c8 8 r ∧ K r (F M)) := rfl
section
variable {p : Program} {l : Launch} {e : Env} {s : State} {m : MethodId} {args : Array Value} {below : List Frame} {meth : Method} {c : Code} {nL : Nat} {cc : ByteArray} {ret : Option FieldType} {Q0 : State → Prop} {g : mG} {H0 : Heap} {idx fr lo : Nat}
theorem ov_vrV_ok {y : MethodName} {cc' : ByteArray} {maxL' fr' lo' : Nat} {P : mM → Prop} {Q : mM → mM → Prop} (hM : mc_vrV l y cc' maxL' fr' lo' P Q) (h1 : Cond.methodLink RX2 idx y ∈ lw_all) (h2 : Cond.instanceMethod y ∈ lw_all) (h3 : Cond.selects RX2 y y ∈ lw_all) (h4 : Cond.initialized RX2 ∈ lw_all) (h5 : Cond.code y cc' maxL' none ∈ lw_all) (hd0 : y.cls = RX2 ∧ y.cls ≠ "java/lang/invoke/MethodHandle" ∧ y.cls ≠ "java/lang/invoke/VarHandle" ∧ (parseMethodDescriptor y.desc).map (fun d => d.parameters.length) = some 0) (hR : fr' + 1 ≤ fr ∧ 8 + (maxL' + 11) + lo' ≤ lo) (C : se_Cx p s m args meth c cc nL RX2 ret) (hG : mGl g s) (hI : mInj g) : se_Snd p l e (mRoom fr lo) s m args below meth c Q0 nL g.1 (mRM g H0) cc (.invokevirtual idx) 3 (ov_vrV P Q) := by
  refine (oC_ok hM h1 h2 h3 h4 h5 hd0 hR C hG hI).mono fun st M K X h => ?_
  unfold ov_vrV at h
  split at h
  · rename_i r
    exact ⟨[], r, rfl, rfl, h.2.1, ⟨rfl, h.1⟩, fun v M' hp => by
      obtain ⟨rfl, hq⟩ := hp rfl
      exact h.2.2 M' hq⟩
  · exact h.elim
theorem of_vrV_ok {y : MethodName} {cc' : ByteArray} {maxL' fr' lo' : Nat} {P : mM → Prop} {F : mM → mM} (hM : mc_vrV l y cc' maxL' fr' lo' P (fun M M' => M' = F M)) (h1 : Cond.methodLink RX2 idx y ∈ lw_all) (h2 : Cond.instanceMethod y ∈ lw_all) (h3 : Cond.selects RX2 y y ∈ lw_all) (h4 : Cond.initialized RX2 ∈ lw_all) (h5 : Cond.code y cc' maxL' none ∈ lw_all) (hd0 : y.cls = RX2 ∧ y.cls ≠ "java/lang/invoke/MethodHandle" ∧ y.cls ≠ "java/lang/invoke/VarHandle" ∧ (parseMethodDescriptor y.desc).map (fun d => d.parameters.length) = some 0) (hR : fr' + 1 ≤ fr ∧ 8 + (maxL' + 11) + lo' ≤ lo) (C : se_Cx p s m args meth c cc nL RX2 ret) (hG : mGl g s) (hI : mInj g) : se_Snd p l e (mRoom fr lo) s m args below meth c Q0 nL g.1 (mRM g H0) cc (.invokevirtual idx) 3 (of_vrV P F) := by
  refine (ov_vrV_ok hM h1 h2 h3 h4 h5 hd0 hR C hG hI).mono fun st M K X h => ?_
  unfold of_vrV at h
  split at h
  · exact ⟨h.1, h.2.1, fun M' hq => by
      subst hq
      exact h.2.2⟩
  · exact h.elim
end
def rt_vrV (Q : mM → mM → Prop)  (M : mM) : Option Value → mM → Prop := fun v M' => se_nr none v ∧ (fun (av : List Value) (M : mM) (v : Option Value) (M' : mM) => av = [.ref 0] → v = none ∧ Q M M') [.ref 0] M v M'
theorem rt_vrV_e {Q : mM → mM → Prop}  {M M' : mM}  : rt_vrV Q M none M' = (Q M M') := by
  apply propext
  constructor
  · intro h
    exact (h.2  rfl).2
  · intro h
    exact ⟨rfl, fun _ => ⟨rfl, h⟩⟩
theorem mc_vrV_of {l : Launch} {y : MethodName} {cc : ByteArray} {maxL fr lo : Nat} {P : mM → Prop} {Q : mM → mM → Prop} {T : Nat → Nat → se_Op mM} (hy : plainName y.cls = true) (hyc : y.cls = RX2) (hT : mTS l cc maxL none fr lo T) (hL : 1 ≤ maxL)
    (body : ∀  (M : mM), P M → ∀ G : Nat → se_L → List Value → mM → Prop, (∀ (stops : List Nat) (n pc : Nat) (L : se_L) (st : List Value) (M' : mM), wpN False T cc stops G (fun _ _ _ _ => False) (rt_vrV Q M) n pc L st M' → G pc L st M') → G 0 (se_ent [.ref 0] maxL) [] M) : mc_vrV l y cc maxL fr lo P Q :=
  mOf hy hyc hT (fun av M h => by
    obtain ⟨rfl, _⟩ := h
    exact hL) (fun av M hp G hG => by
    obtain ⟨rfl, hp⟩ := hp
    exact body  M hp G hG)
abbrev mc_vrZ (l : Launch) (y : MethodName) (cc : ByteArray) (maxL fr lo : Nat) (P : mM → Prop) (Q : mM → Bool → mM → Prop) : Prop := mCon l y cc maxL (some .boolean) fr lo (fun av M => av = [.ref 0] ∧ P M) (fun av M v M' => av = [.ref 0] → ∃ x, v = some (.int (bI x)) ∧ Q M x M')
def ov_vrZ (P : mM → Prop) (Q : mM → Bool → mM → Prop) : se_Op mM := fun st M K _ => match st with
  | .ref 0 :: r => P M ∧ se_c8 8 r ∧ ∀ x M', Q M x M' → K (.int (bI x) :: r) M'
  | _ => False
def of_vrZ (P : mM → Prop) (R : mM → Bool) (F : mM → mM) : se_Op mM := fun st M K _ => match st with
  | .ref 0 :: r => P M ∧ se_c8 8 r ∧ K (.int (bI (R M)) :: r) (F M)
  | _ => False
theorem ov_vrZ_r {P : mM → Prop} {Q : mM → Bool → mM → Prop}  {r : List Value} {M : mM} {K : List Value → mM → Prop} {X : Nat → mM → Prop} : ov_vrZ P Q (.ref 0 :: r) M K X = (P M ∧ se_c8 8 r ∧ ∀ x M', Q M x M' → K (.int (bI x) :: r) M') := rfl
theorem of_vrZ_r {P : mM → Prop} {R : mM → Bool} {F : mM → mM}  {r : List Value} {M : mM} {K : List Value → mM → Prop} {X : Nat → mM → Prop} : of_vrZ P R F (.ref 0 :: r) M K X = (P M ∧ se_c8 8 r ∧ K (.int (bI (R M)) :: r) (F M)) := rfl
section
variable {p : Program} {l : Launch} {e : Env} {s : State} {m : MethodId} {args : Array Value} {below : List Frame} {meth : Method} {c : Code} {nL : Nat} {cc : ByteArray} {ret : Option FieldType} {Q0 : State → Prop} {g : mG} {H0 : Heap} {idx fr lo : Nat}
theorem ov_vrZ_ok {y : MethodName} {cc' : ByteArray} {maxL' fr' lo' : Nat} {P : mM → Prop} {Q : mM → Bool → mM → Prop} (hM : mc_vrZ l y cc' maxL' fr' lo' P Q) (h1 : Cond.methodLink RX2 idx y ∈ lw_all) (h2 : Cond.instanceMethod y ∈ lw_all) (h3 : Cond.selects RX2 y y ∈ lw_all) (h4 : Cond.initialized RX2 ∈ lw_all) (h5 : Cond.code y cc' maxL' (some .boolean) ∈ lw_all) (hd0 : y.cls = RX2 ∧ y.cls ≠ "java/lang/invoke/MethodHandle" ∧ y.cls ≠ "java/lang/invoke/VarHandle" ∧ (parseMethodDescriptor y.desc).map (fun d => d.parameters.length) = some 0) (hR : fr' + 1 ≤ fr ∧ 8 + (maxL' + 11) + lo' ≤ lo) (C : se_Cx p s m args meth c cc nL RX2 ret) (hG : mGl g s) (hI : mInj g) : se_Snd p l e (mRoom fr lo) s m args below meth c Q0 nL g.1 (mRM g H0) cc (.invokevirtual idx) 3 (ov_vrZ P Q) := by
  refine (oC_ok hM h1 h2 h3 h4 h5 hd0 hR C hG hI).mono fun st M K X h => ?_
  unfold ov_vrZ at h
  split at h
  · rename_i r
    exact ⟨[], r, rfl, rfl, h.2.1, ⟨rfl, h.1⟩, fun v M' hp => by
      obtain ⟨x, rfl, hq⟩ := hp rfl
      exact h.2.2 x M' hq⟩
  · exact h.elim
theorem of_vrZ_ok {y : MethodName} {cc' : ByteArray} {maxL' fr' lo' : Nat} {P : mM → Prop} {R : mM → Bool} {F : mM → mM} (hM : mc_vrZ l y cc' maxL' fr' lo' P (fun M x M' => x = R M ∧ M' = F M)) (h1 : Cond.methodLink RX2 idx y ∈ lw_all) (h2 : Cond.instanceMethod y ∈ lw_all) (h3 : Cond.selects RX2 y y ∈ lw_all) (h4 : Cond.initialized RX2 ∈ lw_all) (h5 : Cond.code y cc' maxL' (some .boolean) ∈ lw_all) (hd0 : y.cls = RX2 ∧ y.cls ≠ "java/lang/invoke/MethodHandle" ∧ y.cls ≠ "java/lang/invoke/VarHandle" ∧ (parseMethodDescriptor y.desc).map (fun d => d.parameters.length) = some 0) (hR : fr' + 1 ≤ fr ∧ 8 + (maxL' + 11) + lo' ≤ lo) (C : se_Cx p s m args meth c cc nL RX2 ret) (hG : mGl g s) (hI : mInj g) : se_Snd p l e (mRoom fr lo) s m args below meth c Q0 nL g.1 (mRM g H0) cc (.invokevirtual idx) 3 (of_vrZ P R F) := by
  refine (ov_vrZ_ok hM h1 h2 h3 h4 h5 hd0 hR C hG hI).mono fun st M K X h => ?_
  unfold of_vrZ at h
  split at h
  · exact ⟨h.1, h.2.1, fun x M' hq => by
      obtain ⟨rfl, rfl⟩ := hq
      exact h.2.2⟩
  · exact h.elim
end
def rt_vrZ (Q : mM → Bool → mM → Prop)  (M : mM) : Option Value → mM → Prop := fun v M' => se_nr (some .boolean) v ∧ (fun (av : List Value) (M : mM) (v : Option Value) (M' : mM) => av = [.ref 0] → ∃ x, v = some (.int (bI x)) ∧ Q M x M') [.ref 0] M v M'
theorem rt_vrZ_e {Q : mM → Bool → mM → Prop}  {M M' : mM} {z : Int32} : rt_vrZ Q M (some (.int z)) M' = (rz z fun x => Q M x M') := by
  apply propext
  constructor
  · intro h
    obtain ⟨x, e, hq⟩ := h.2  rfl
    cases e
    exact ⟨x, rfl, hq⟩
  · intro h
    obtain ⟨x, rfl, hq⟩ := h
    exact ⟨⟨_, rfl, bI_nar x⟩, fun _ => ⟨x, rfl, hq⟩⟩
theorem mc_vrZ_of {l : Launch} {y : MethodName} {cc : ByteArray} {maxL fr lo : Nat} {P : mM → Prop} {Q : mM → Bool → mM → Prop} {T : Nat → Nat → se_Op mM} (hy : plainName y.cls = true) (hyc : y.cls = RX2) (hT : mTS l cc maxL (some .boolean) fr lo T) (hL : 1 ≤ maxL)
    (body : ∀  (M : mM), P M → ∀ G : Nat → se_L → List Value → mM → Prop, (∀ (stops : List Nat) (n pc : Nat) (L : se_L) (st : List Value) (M' : mM), wpN False T cc stops G (fun _ _ _ _ => False) (rt_vrZ Q M) n pc L st M' → G pc L st M') → G 0 (se_ent [.ref 0] maxL) [] M) : mc_vrZ l y cc maxL fr lo P Q :=
  mOf hy hyc hT (fun av M h => by
    obtain ⟨rfl, _⟩ := h
    exact hL) (fun av M hp G hG => by
    obtain ⟨rfl, hp⟩ := hp
    exact body  M hp G hG)
abbrev mc_vIrI (l : Launch) (y : MethodName) (cc : ByteArray) (maxL fr lo : Nat) (P : Int32 → mM → Prop) (Q : Int32 → mM → Int32 → mM → Prop) : Prop := mCon l y cc maxL (some .int) fr lo (fun av M => ∃ (a0 : Int32), av = [.ref 0, .int a0] ∧ P a0 M) (fun av M v M' => ∀ (a0 : Int32), av = [.ref 0, .int a0] → ∃ x, v = some (.int x) ∧ Q a0 M x M')
def ov_vIrI (P : Int32 → mM → Prop) (Q : Int32 → mM → Int32 → mM → Prop) : se_Op mM := fun st M K _ => match st with
  | .int a0 :: .ref 0 :: r => P a0 M ∧ se_c8 8 r ∧ ∀ x M', Q a0 M x M' → K (.int x :: r) M'
  | _ => False
def of_vIrI (P : Int32 → mM → Prop) (R : Int32 → mM → Int32) (F : Int32 → mM → mM) : se_Op mM := fun st M K _ => match st with
  | .int a0 :: .ref 0 :: r => P a0 M ∧ se_c8 8 r ∧ K (.int (R a0 M) :: r) (F a0 M)
  | _ => False
theorem ov_vIrI_r {P : Int32 → mM → Prop} {Q : Int32 → mM → Int32 → mM → Prop} {a0 : Int32} {r : List Value} {M : mM} {K : List Value → mM → Prop} {X : Nat → mM → Prop} : ov_vIrI P Q (.int a0 :: .ref 0 :: r) M K X = (P a0 M ∧ se_c8 8 r ∧ ∀ x M', Q a0 M x M' → K (.int x :: r) M') := rfl
theorem of_vIrI_r {P : Int32 → mM → Prop} {R : Int32 → mM → Int32} {F : Int32 → mM → mM} {a0 : Int32} {r : List Value} {M : mM} {K : List Value → mM → Prop} {X : Nat → mM → Prop} : of_vIrI P R F (.int a0 :: .ref 0 :: r) M K X = (P a0 M ∧ se_c8 8 r ∧ K (.int (R a0 M) :: r) (F a0 M)) := rfl
section
variable {p : Program} {l : Launch} {e : Env} {s : State} {m : MethodId} {args : Array Value} {below : List Frame} {meth : Method} {c : Code} {nL : Nat} {cc : ByteArray} {ret : Option FieldType} {Q0 : State → Prop} {g : mG} {H0 : Heap} {idx fr lo : Nat}
theorem ov_vIrI_ok {y : MethodName} {cc' : ByteArray} {maxL' fr' lo' : Nat} {P : Int32 → mM → Prop} {Q : Int32 → mM → Int32 → mM → Prop} (hM : mc_vIrI l y cc' maxL' fr' lo' P Q) (h1 : Cond.methodLink RX2 idx y ∈ lw_all) (h2 : Cond.instanceMethod y ∈ lw_all) (h3 : Cond.selects RX2 y y ∈ lw_all) (h4 : Cond.initialized RX2 ∈ lw_all) (h5 : Cond.code y cc' maxL' (some .int) ∈ lw_all) (hd0 : y.cls = RX2 ∧ y.cls ≠ "java/lang/invoke/MethodHandle" ∧ y.cls ≠ "java/lang/invoke/VarHandle" ∧ (parseMethodDescriptor y.desc).map (fun d => d.parameters.length) = some 1) (hR : fr' + 1 ≤ fr ∧ 8 + (maxL' + 11) + lo' ≤ lo) (C : se_Cx p s m args meth c cc nL RX2 ret) (hG : mGl g s) (hI : mInj g) : se_Snd p l e (mRoom fr lo) s m args below meth c Q0 nL g.1 (mRM g H0) cc (.invokevirtual idx) 3 (ov_vIrI P Q) := by
  refine (oC_ok hM h1 h2 h3 h4 h5 hd0 hR C hG hI).mono fun st M K X h => ?_
  unfold ov_vIrI at h
  split at h
  · rename_i a0 r
    exact ⟨[.int a0], r, rfl, rfl, h.2.1, ⟨a0, rfl, h.1⟩, fun v M' hp => by
      obtain ⟨x, rfl, hq⟩ := hp a0 rfl
      exact h.2.2 x M' hq⟩
  · exact h.elim
theorem of_vIrI_ok {y : MethodName} {cc' : ByteArray} {maxL' fr' lo' : Nat} {P : Int32 → mM → Prop} {R : Int32 → mM → Int32} {F : Int32 → mM → mM} (hM : mc_vIrI l y cc' maxL' fr' lo' P (fun a0 M x M' => x = R a0 M ∧ M' = F a0 M)) (h1 : Cond.methodLink RX2 idx y ∈ lw_all) (h2 : Cond.instanceMethod y ∈ lw_all) (h3 : Cond.selects RX2 y y ∈ lw_all) (h4 : Cond.initialized RX2 ∈ lw_all) (h5 : Cond.code y cc' maxL' (some .int) ∈ lw_all) (hd0 : y.cls = RX2 ∧ y.cls ≠ "java/lang/invoke/MethodHandle" ∧ y.cls ≠ "java/lang/invoke/VarHandle" ∧ (parseMethodDescriptor y.desc).map (fun d => d.parameters.length) = some 1) (hR : fr' + 1 ≤ fr ∧ 8 + (maxL' + 11) + lo' ≤ lo) (C : se_Cx p s m args meth c cc nL RX2 ret) (hG : mGl g s) (hI : mInj g) : se_Snd p l e (mRoom fr lo) s m args below meth c Q0 nL g.1 (mRM g H0) cc (.invokevirtual idx) 3 (of_vIrI P R F) := by
  refine (ov_vIrI_ok hM h1 h2 h3 h4 h5 hd0 hR C hG hI).mono fun st M K X h => ?_
  unfold of_vIrI at h
  split at h
  · exact ⟨h.1, h.2.1, fun x M' hq => by
      obtain ⟨rfl, rfl⟩ := hq
      exact h.2.2⟩
  · exact h.elim
end
def rt_vIrI (Q : Int32 → mM → Int32 → mM → Prop) (a0 : Int32) (M : mM) : Option Value → mM → Prop := fun v M' => se_nr (some .int) v ∧ (fun (av : List Value) (M : mM) (v : Option Value) (M' : mM) => ∀ (a0 : Int32), av = [.ref 0, .int a0] → ∃ x, v = some (.int x) ∧ Q a0 M x M') [.ref 0, .int a0] M v M'
theorem rt_vIrI_e {Q : Int32 → mM → Int32 → mM → Prop} {a0 : Int32} {M M' : mM} {z : Int32} : rt_vIrI Q a0 M (some (.int z)) M' = (Q a0 M z M') := by
  apply propext
  constructor
  · intro h
    obtain ⟨x, e, hq⟩ := h.2 a0 rfl
    cases e
    exact hq
  · intro h
    exact ⟨⟨_, rfl, rfl⟩, fun _ e => by
      cases e
      exact ⟨z, rfl, h⟩⟩
theorem mc_vIrI_of {l : Launch} {y : MethodName} {cc : ByteArray} {maxL fr lo : Nat} {P : Int32 → mM → Prop} {Q : Int32 → mM → Int32 → mM → Prop} {T : Nat → Nat → se_Op mM} (hy : plainName y.cls = true) (hyc : y.cls = RX2) (hT : mTS l cc maxL (some .int) fr lo T) (hL : 2 ≤ maxL)
    (body : ∀ (a0 : Int32) (M : mM), P a0 M → ∀ G : Nat → se_L → List Value → mM → Prop, (∀ (stops : List Nat) (n pc : Nat) (L : se_L) (st : List Value) (M' : mM), wpN False T cc stops G (fun _ _ _ _ => False) (rt_vIrI Q a0 M) n pc L st M' → G pc L st M') → G 0 (se_ent [.ref 0, .int a0] maxL) [] M) : mc_vIrI l y cc maxL fr lo P Q :=
  mOf hy hyc hT (fun av M h => by
    obtain ⟨a0, rfl, _⟩ := h
    exact hL) (fun av M hp G hG => by
    obtain ⟨a0, rfl, hp⟩ := hp
    exact body a0 M hp G hG)
abbrev mc_vIrJ (l : Launch) (y : MethodName) (cc : ByteArray) (maxL fr lo : Nat) (P : Int32 → mM → Prop) (Q : Int32 → mM → Int64 → mM → Prop) : Prop := mCon l y cc maxL (some .long) fr lo (fun av M => ∃ (a0 : Int32), av = [.ref 0, .int a0] ∧ P a0 M) (fun av M v M' => ∀ (a0 : Int32), av = [.ref 0, .int a0] → ∃ x, v = some (.long x) ∧ Q a0 M x M')
def ov_vIrJ (P : Int32 → mM → Prop) (Q : Int32 → mM → Int64 → mM → Prop) : se_Op mM := fun st M K _ => match st with
  | .int a0 :: .ref 0 :: r => P a0 M ∧ se_c8 8 r ∧ ∀ x M', Q a0 M x M' → K (.long x :: r) M'
  | _ => False
def of_vIrJ (P : Int32 → mM → Prop) (R : Int32 → mM → Int64) (F : Int32 → mM → mM) : se_Op mM := fun st M K _ => match st with
  | .int a0 :: .ref 0 :: r => P a0 M ∧ se_c8 8 r ∧ K (.long (R a0 M) :: r) (F a0 M)
  | _ => False
theorem ov_vIrJ_r {P : Int32 → mM → Prop} {Q : Int32 → mM → Int64 → mM → Prop} {a0 : Int32} {r : List Value} {M : mM} {K : List Value → mM → Prop} {X : Nat → mM → Prop} : ov_vIrJ P Q (.int a0 :: .ref 0 :: r) M K X = (P a0 M ∧ se_c8 8 r ∧ ∀ x M', Q a0 M x M' → K (.long x :: r) M') := rfl
theorem of_vIrJ_r {P : Int32 → mM → Prop} {R : Int32 → mM → Int64} {F : Int32 → mM → mM} {a0 : Int32} {r : List Value} {M : mM} {K : List Value → mM → Prop} {X : Nat → mM → Prop} : of_vIrJ P R F (.int a0 :: .ref 0 :: r) M K X = (P a0 M ∧ se_c8 8 r ∧ K (.long (R a0 M) :: r) (F a0 M)) := rfl
section
variable {p : Program} {l : Launch} {e : Env} {s : State} {m : MethodId} {args : Array Value} {below : List Frame} {meth : Method} {c : Code} {nL : Nat} {cc : ByteArray} {ret : Option FieldType} {Q0 : State → Prop} {g : mG} {H0 : Heap} {idx fr lo : Nat}
theorem ov_vIrJ_ok {y : MethodName} {cc' : ByteArray} {maxL' fr' lo' : Nat} {P : Int32 → mM → Prop} {Q : Int32 → mM → Int64 → mM → Prop} (hM : mc_vIrJ l y cc' maxL' fr' lo' P Q) (h1 : Cond.methodLink RX2 idx y ∈ lw_all) (h2 : Cond.instanceMethod y ∈ lw_all) (h3 : Cond.selects RX2 y y ∈ lw_all) (h4 : Cond.initialized RX2 ∈ lw_all) (h5 : Cond.code y cc' maxL' (some .long) ∈ lw_all) (hd0 : y.cls = RX2 ∧ y.cls ≠ "java/lang/invoke/MethodHandle" ∧ y.cls ≠ "java/lang/invoke/VarHandle" ∧ (parseMethodDescriptor y.desc).map (fun d => d.parameters.length) = some 1) (hR : fr' + 1 ≤ fr ∧ 8 + (maxL' + 11) + lo' ≤ lo) (C : se_Cx p s m args meth c cc nL RX2 ret) (hG : mGl g s) (hI : mInj g) : se_Snd p l e (mRoom fr lo) s m args below meth c Q0 nL g.1 (mRM g H0) cc (.invokevirtual idx) 3 (ov_vIrJ P Q) := by
  refine (oC_ok hM h1 h2 h3 h4 h5 hd0 hR C hG hI).mono fun st M K X h => ?_
  unfold ov_vIrJ at h
  split at h
  · rename_i a0 r
    exact ⟨[.int a0], r, rfl, rfl, h.2.1, ⟨a0, rfl, h.1⟩, fun v M' hp => by
      obtain ⟨x, rfl, hq⟩ := hp a0 rfl
      exact h.2.2 x M' hq⟩
  · exact h.elim
theorem of_vIrJ_ok {y : MethodName} {cc' : ByteArray} {maxL' fr' lo' : Nat} {P : Int32 → mM → Prop} {R : Int32 → mM → Int64} {F : Int32 → mM → mM} (hM : mc_vIrJ l y cc' maxL' fr' lo' P (fun a0 M x M' => x = R a0 M ∧ M' = F a0 M)) (h1 : Cond.methodLink RX2 idx y ∈ lw_all) (h2 : Cond.instanceMethod y ∈ lw_all) (h3 : Cond.selects RX2 y y ∈ lw_all) (h4 : Cond.initialized RX2 ∈ lw_all) (h5 : Cond.code y cc' maxL' (some .long) ∈ lw_all) (hd0 : y.cls = RX2 ∧ y.cls ≠ "java/lang/invoke/MethodHandle" ∧ y.cls ≠ "java/lang/invoke/VarHandle" ∧ (parseMethodDescriptor y.desc).map (fun d => d.parameters.length) = some 1) (hR : fr' + 1 ≤ fr ∧ 8 + (maxL' + 11) + lo' ≤ lo) (C : se_Cx p s m args meth c cc nL RX2 ret) (hG : mGl g s) (hI : mInj g) : se_Snd p l e (mRoom fr lo) s m args below meth c Q0 nL g.1 (mRM g H0) cc (.invokevirtual idx) 3 (of_vIrJ P R F) := by
  refine (ov_vIrJ_ok hM h1 h2 h3 h4 h5 hd0 hR C hG hI).mono fun st M K X h => ?_
  unfold of_vIrJ at h
  split at h
  · exact ⟨h.1, h.2.1, fun x M' hq => by
      obtain ⟨rfl, rfl⟩ := hq
      exact h.2.2⟩
  · exact h.elim
end
def rt_vIrJ (Q : Int32 → mM → Int64 → mM → Prop) (a0 : Int32) (M : mM) : Option Value → mM → Prop := fun v M' => se_nr (some .long) v ∧ (fun (av : List Value) (M : mM) (v : Option Value) (M' : mM) => ∀ (a0 : Int32), av = [.ref 0, .int a0] → ∃ x, v = some (.long x) ∧ Q a0 M x M') [.ref 0, .int a0] M v M'
theorem rt_vIrJ_e {Q : Int32 → mM → Int64 → mM → Prop} {a0 : Int32} {M M' : mM} {z : Int64} : rt_vIrJ Q a0 M (some (.long z)) M' = (Q a0 M z M') := by
  apply propext
  constructor
  · intro h
    obtain ⟨x, e, hq⟩ := h.2 a0 rfl
    cases e
    exact hq
  · intro h
    exact ⟨rfl, fun _ e => by
      cases e
      exact ⟨z, rfl, h⟩⟩
theorem mc_vIrJ_of {l : Launch} {y : MethodName} {cc : ByteArray} {maxL fr lo : Nat} {P : Int32 → mM → Prop} {Q : Int32 → mM → Int64 → mM → Prop} {T : Nat → Nat → se_Op mM} (hy : plainName y.cls = true) (hyc : y.cls = RX2) (hT : mTS l cc maxL (some .long) fr lo T) (hL : 2 ≤ maxL)
    (body : ∀ (a0 : Int32) (M : mM), P a0 M → ∀ G : Nat → se_L → List Value → mM → Prop, (∀ (stops : List Nat) (n pc : Nat) (L : se_L) (st : List Value) (M' : mM), wpN False T cc stops G (fun _ _ _ _ => False) (rt_vIrJ Q a0 M) n pc L st M' → G pc L st M') → G 0 (se_ent [.ref 0, .int a0] maxL) [] M) : mc_vIrJ l y cc maxL fr lo P Q :=
  mOf hy hyc hT (fun av M h => by
    obtain ⟨a0, rfl, _⟩ := h
    exact hL) (fun av M hp G hG => by
    obtain ⟨a0, rfl, hp⟩ := hp
    exact body a0 M hp G hG)
abbrev mc_vIrV (l : Launch) (y : MethodName) (cc : ByteArray) (maxL fr lo : Nat) (P : Int32 → mM → Prop) (Q : Int32 → mM → mM → Prop) : Prop := mCon l y cc maxL none fr lo (fun av M => ∃ (a0 : Int32), av = [.ref 0, .int a0] ∧ P a0 M) (fun av M v M' => ∀ (a0 : Int32), av = [.ref 0, .int a0] → v = none ∧ Q a0 M M')
def ov_vIrV (P : Int32 → mM → Prop) (Q : Int32 → mM → mM → Prop) : se_Op mM := fun st M K _ => match st with
  | .int a0 :: .ref 0 :: r => P a0 M ∧ se_c8 8 r ∧ ∀ M', Q a0 M M' → K r M'
  | _ => False
def of_vIrV (P : Int32 → mM → Prop) (F : Int32 → mM → mM) : se_Op mM := fun st M K _ => match st with
  | .int a0 :: .ref 0 :: r => P a0 M ∧ se_c8 8 r ∧ K r (F a0 M)
  | _ => False
theorem ov_vIrV_r {P : Int32 → mM → Prop} {Q : Int32 → mM → mM → Prop} {a0 : Int32} {r : List Value} {M : mM} {K : List Value → mM → Prop} {X : Nat → mM → Prop} : ov_vIrV P Q (.int a0 :: .ref 0 :: r) M K X = (P a0 M ∧ se_c8 8 r ∧ ∀ M', Q a0 M M' → K r M') := rfl
theorem of_vIrV_r {P : Int32 → mM → Prop} {F : Int32 → mM → mM} {a0 : Int32} {r : List Value} {M : mM} {K : List Value → mM → Prop} {X : Nat → mM → Prop} : of_vIrV P F (.int a0 :: .ref 0 :: r) M K X = (P a0 M ∧ se_c8 8 r ∧ K r (F a0 M)) := rfl
section
variable {p : Program} {l : Launch} {e : Env} {s : State} {m : MethodId} {args : Array Value} {below : List Frame} {meth : Method} {c : Code} {nL : Nat} {cc : ByteArray} {ret : Option FieldType} {Q0 : State → Prop} {g : mG} {H0 : Heap} {idx fr lo : Nat}
theorem ov_vIrV_ok {y : MethodName} {cc' : ByteArray} {maxL' fr' lo' : Nat} {P : Int32 → mM → Prop} {Q : Int32 → mM → mM → Prop} (hM : mc_vIrV l y cc' maxL' fr' lo' P Q) (h1 : Cond.methodLink RX2 idx y ∈ lw_all) (h2 : Cond.instanceMethod y ∈ lw_all) (h3 : Cond.selects RX2 y y ∈ lw_all) (h4 : Cond.initialized RX2 ∈ lw_all) (h5 : Cond.code y cc' maxL' none ∈ lw_all) (hd0 : y.cls = RX2 ∧ y.cls ≠ "java/lang/invoke/MethodHandle" ∧ y.cls ≠ "java/lang/invoke/VarHandle" ∧ (parseMethodDescriptor y.desc).map (fun d => d.parameters.length) = some 1) (hR : fr' + 1 ≤ fr ∧ 8 + (maxL' + 11) + lo' ≤ lo) (C : se_Cx p s m args meth c cc nL RX2 ret) (hG : mGl g s) (hI : mInj g) : se_Snd p l e (mRoom fr lo) s m args below meth c Q0 nL g.1 (mRM g H0) cc (.invokevirtual idx) 3 (ov_vIrV P Q) := by
  refine (oC_ok hM h1 h2 h3 h4 h5 hd0 hR C hG hI).mono fun st M K X h => ?_
  unfold ov_vIrV at h
  split at h
  · rename_i a0 r
    exact ⟨[.int a0], r, rfl, rfl, h.2.1, ⟨a0, rfl, h.1⟩, fun v M' hp => by
      obtain ⟨rfl, hq⟩ := hp a0 rfl
      exact h.2.2 M' hq⟩
  · exact h.elim
theorem of_vIrV_ok {y : MethodName} {cc' : ByteArray} {maxL' fr' lo' : Nat} {P : Int32 → mM → Prop} {F : Int32 → mM → mM} (hM : mc_vIrV l y cc' maxL' fr' lo' P (fun a0 M M' => M' = F a0 M)) (h1 : Cond.methodLink RX2 idx y ∈ lw_all) (h2 : Cond.instanceMethod y ∈ lw_all) (h3 : Cond.selects RX2 y y ∈ lw_all) (h4 : Cond.initialized RX2 ∈ lw_all) (h5 : Cond.code y cc' maxL' none ∈ lw_all) (hd0 : y.cls = RX2 ∧ y.cls ≠ "java/lang/invoke/MethodHandle" ∧ y.cls ≠ "java/lang/invoke/VarHandle" ∧ (parseMethodDescriptor y.desc).map (fun d => d.parameters.length) = some 1) (hR : fr' + 1 ≤ fr ∧ 8 + (maxL' + 11) + lo' ≤ lo) (C : se_Cx p s m args meth c cc nL RX2 ret) (hG : mGl g s) (hI : mInj g) : se_Snd p l e (mRoom fr lo) s m args below meth c Q0 nL g.1 (mRM g H0) cc (.invokevirtual idx) 3 (of_vIrV P F) := by
  refine (ov_vIrV_ok hM h1 h2 h3 h4 h5 hd0 hR C hG hI).mono fun st M K X h => ?_
  unfold of_vIrV at h
  split at h
  · exact ⟨h.1, h.2.1, fun M' hq => by
      subst hq
      exact h.2.2⟩
  · exact h.elim
end
def rt_vIrV (Q : Int32 → mM → mM → Prop) (a0 : Int32) (M : mM) : Option Value → mM → Prop := fun v M' => se_nr none v ∧ (fun (av : List Value) (M : mM) (v : Option Value) (M' : mM) => ∀ (a0 : Int32), av = [.ref 0, .int a0] → v = none ∧ Q a0 M M') [.ref 0, .int a0] M v M'
theorem rt_vIrV_e {Q : Int32 → mM → mM → Prop} {a0 : Int32} {M M' : mM}  : rt_vIrV Q a0 M none M' = (Q a0 M M') := by
  apply propext
  constructor
  · intro h
    exact (h.2 a0 rfl).2
  · intro h
    exact ⟨rfl, fun _ e => by
      cases e
      exact ⟨rfl, h⟩⟩
theorem mc_vIrV_of {l : Launch} {y : MethodName} {cc : ByteArray} {maxL fr lo : Nat} {P : Int32 → mM → Prop} {Q : Int32 → mM → mM → Prop} {T : Nat → Nat → se_Op mM} (hy : plainName y.cls = true) (hyc : y.cls = RX2) (hT : mTS l cc maxL none fr lo T) (hL : 2 ≤ maxL)
    (body : ∀ (a0 : Int32) (M : mM), P a0 M → ∀ G : Nat → se_L → List Value → mM → Prop, (∀ (stops : List Nat) (n pc : Nat) (L : se_L) (st : List Value) (M' : mM), wpN False T cc stops G (fun _ _ _ _ => False) (rt_vIrV Q a0 M) n pc L st M' → G pc L st M') → G 0 (se_ent [.ref 0, .int a0] maxL) [] M) : mc_vIrV l y cc maxL fr lo P Q :=
  mOf hy hyc hT (fun av M h => by
    obtain ⟨a0, rfl, _⟩ := h
    exact hL) (fun av M hp G hG => by
    obtain ⟨a0, rfl, hp⟩ := hp
    exact body a0 M hp G hG)
abbrev mc_vIrZ (l : Launch) (y : MethodName) (cc : ByteArray) (maxL fr lo : Nat) (P : Int32 → mM → Prop) (Q : Int32 → mM → Bool → mM → Prop) : Prop := mCon l y cc maxL (some .boolean) fr lo (fun av M => ∃ (a0 : Int32), av = [.ref 0, .int a0] ∧ P a0 M) (fun av M v M' => ∀ (a0 : Int32), av = [.ref 0, .int a0] → ∃ x, v = some (.int (bI x)) ∧ Q a0 M x M')
def ov_vIrZ (P : Int32 → mM → Prop) (Q : Int32 → mM → Bool → mM → Prop) : se_Op mM := fun st M K _ => match st with
  | .int a0 :: .ref 0 :: r => P a0 M ∧ se_c8 8 r ∧ ∀ x M', Q a0 M x M' → K (.int (bI x) :: r) M'
  | _ => False
def of_vIrZ (P : Int32 → mM → Prop) (R : Int32 → mM → Bool) (F : Int32 → mM → mM) : se_Op mM := fun st M K _ => match st with
  | .int a0 :: .ref 0 :: r => P a0 M ∧ se_c8 8 r ∧ K (.int (bI (R a0 M)) :: r) (F a0 M)
  | _ => False
theorem ov_vIrZ_r {P : Int32 → mM → Prop} {Q : Int32 → mM → Bool → mM → Prop} {a0 : Int32} {r : List Value} {M : mM} {K : List Value → mM → Prop} {X : Nat → mM → Prop} : ov_vIrZ P Q (.int a0 :: .ref 0 :: r) M K X = (P a0 M ∧ se_c8 8 r ∧ ∀ x M', Q a0 M x M' → K (.int (bI x) :: r) M') := rfl
theorem of_vIrZ_r {P : Int32 → mM → Prop} {R : Int32 → mM → Bool} {F : Int32 → mM → mM} {a0 : Int32} {r : List Value} {M : mM} {K : List Value → mM → Prop} {X : Nat → mM → Prop} : of_vIrZ P R F (.int a0 :: .ref 0 :: r) M K X = (P a0 M ∧ se_c8 8 r ∧ K (.int (bI (R a0 M)) :: r) (F a0 M)) := rfl
section
variable {p : Program} {l : Launch} {e : Env} {s : State} {m : MethodId} {args : Array Value} {below : List Frame} {meth : Method} {c : Code} {nL : Nat} {cc : ByteArray} {ret : Option FieldType} {Q0 : State → Prop} {g : mG} {H0 : Heap} {idx fr lo : Nat}
theorem ov_vIrZ_ok {y : MethodName} {cc' : ByteArray} {maxL' fr' lo' : Nat} {P : Int32 → mM → Prop} {Q : Int32 → mM → Bool → mM → Prop} (hM : mc_vIrZ l y cc' maxL' fr' lo' P Q) (h1 : Cond.methodLink RX2 idx y ∈ lw_all) (h2 : Cond.instanceMethod y ∈ lw_all) (h3 : Cond.selects RX2 y y ∈ lw_all) (h4 : Cond.initialized RX2 ∈ lw_all) (h5 : Cond.code y cc' maxL' (some .boolean) ∈ lw_all) (hd0 : y.cls = RX2 ∧ y.cls ≠ "java/lang/invoke/MethodHandle" ∧ y.cls ≠ "java/lang/invoke/VarHandle" ∧ (parseMethodDescriptor y.desc).map (fun d => d.parameters.length) = some 1) (hR : fr' + 1 ≤ fr ∧ 8 + (maxL' + 11) + lo' ≤ lo) (C : se_Cx p s m args meth c cc nL RX2 ret) (hG : mGl g s) (hI : mInj g) : se_Snd p l e (mRoom fr lo) s m args below meth c Q0 nL g.1 (mRM g H0) cc (.invokevirtual idx) 3 (ov_vIrZ P Q) := by
  refine (oC_ok hM h1 h2 h3 h4 h5 hd0 hR C hG hI).mono fun st M K X h => ?_
  unfold ov_vIrZ at h
  split at h
  · rename_i a0 r
    exact ⟨[.int a0], r, rfl, rfl, h.2.1, ⟨a0, rfl, h.1⟩, fun v M' hp => by
      obtain ⟨x, rfl, hq⟩ := hp a0 rfl
      exact h.2.2 x M' hq⟩
  · exact h.elim
theorem of_vIrZ_ok {y : MethodName} {cc' : ByteArray} {maxL' fr' lo' : Nat} {P : Int32 → mM → Prop} {R : Int32 → mM → Bool} {F : Int32 → mM → mM} (hM : mc_vIrZ l y cc' maxL' fr' lo' P (fun a0 M x M' => x = R a0 M ∧ M' = F a0 M)) (h1 : Cond.methodLink RX2 idx y ∈ lw_all) (h2 : Cond.instanceMethod y ∈ lw_all) (h3 : Cond.selects RX2 y y ∈ lw_all) (h4 : Cond.initialized RX2 ∈ lw_all) (h5 : Cond.code y cc' maxL' (some .boolean) ∈ lw_all) (hd0 : y.cls = RX2 ∧ y.cls ≠ "java/lang/invoke/MethodHandle" ∧ y.cls ≠ "java/lang/invoke/VarHandle" ∧ (parseMethodDescriptor y.desc).map (fun d => d.parameters.length) = some 1) (hR : fr' + 1 ≤ fr ∧ 8 + (maxL' + 11) + lo' ≤ lo) (C : se_Cx p s m args meth c cc nL RX2 ret) (hG : mGl g s) (hI : mInj g) : se_Snd p l e (mRoom fr lo) s m args below meth c Q0 nL g.1 (mRM g H0) cc (.invokevirtual idx) 3 (of_vIrZ P R F) := by
  refine (ov_vIrZ_ok hM h1 h2 h3 h4 h5 hd0 hR C hG hI).mono fun st M K X h => ?_
  unfold of_vIrZ at h
  split at h
  · exact ⟨h.1, h.2.1, fun x M' hq => by
      obtain ⟨rfl, rfl⟩ := hq
      exact h.2.2⟩
  · exact h.elim
end
def rt_vIrZ (Q : Int32 → mM → Bool → mM → Prop) (a0 : Int32) (M : mM) : Option Value → mM → Prop := fun v M' => se_nr (some .boolean) v ∧ (fun (av : List Value) (M : mM) (v : Option Value) (M' : mM) => ∀ (a0 : Int32), av = [.ref 0, .int a0] → ∃ x, v = some (.int (bI x)) ∧ Q a0 M x M') [.ref 0, .int a0] M v M'
theorem rt_vIrZ_e {Q : Int32 → mM → Bool → mM → Prop} {a0 : Int32} {M M' : mM} {z : Int32} : rt_vIrZ Q a0 M (some (.int z)) M' = (rz z fun x => Q a0 M x M') := by
  apply propext
  constructor
  · intro h
    obtain ⟨x, e, hq⟩ := h.2 a0 rfl
    cases e
    exact ⟨x, rfl, hq⟩
  · intro h
    obtain ⟨x, rfl, hq⟩ := h
    exact ⟨⟨_, rfl, bI_nar x⟩, fun _ e => by
      cases e
      exact ⟨x, rfl, hq⟩⟩
theorem mc_vIrZ_of {l : Launch} {y : MethodName} {cc : ByteArray} {maxL fr lo : Nat} {P : Int32 → mM → Prop} {Q : Int32 → mM → Bool → mM → Prop} {T : Nat → Nat → se_Op mM} (hy : plainName y.cls = true) (hyc : y.cls = RX2) (hT : mTS l cc maxL (some .boolean) fr lo T) (hL : 2 ≤ maxL)
    (body : ∀ (a0 : Int32) (M : mM), P a0 M → ∀ G : Nat → se_L → List Value → mM → Prop, (∀ (stops : List Nat) (n pc : Nat) (L : se_L) (st : List Value) (M' : mM), wpN False T cc stops G (fun _ _ _ _ => False) (rt_vIrZ Q a0 M) n pc L st M' → G pc L st M') → G 0 (se_ent [.ref 0, .int a0] maxL) [] M) : mc_vIrZ l y cc maxL fr lo P Q :=
  mOf hy hyc hT (fun av M h => by
    obtain ⟨a0, rfl, _⟩ := h
    exact hL) (fun av M hp G hG => by
    obtain ⟨a0, rfl, hp⟩ := hp
    exact body a0 M hp G hG)
abbrev mc_vIIrI (l : Launch) (y : MethodName) (cc : ByteArray) (maxL fr lo : Nat) (P : Int32 → Int32 → mM → Prop) (Q : Int32 → Int32 → mM → Int32 → mM → Prop) : Prop := mCon l y cc maxL (some .int) fr lo (fun av M => ∃ (a0 : Int32) (a1 : Int32), av = [.ref 0, .int a0, .int a1] ∧ P a0 a1 M) (fun av M v M' => ∀ (a0 : Int32) (a1 : Int32), av = [.ref 0, .int a0, .int a1] → ∃ x, v = some (.int x) ∧ Q a0 a1 M x M')
def ov_vIIrI (P : Int32 → Int32 → mM → Prop) (Q : Int32 → Int32 → mM → Int32 → mM → Prop) : se_Op mM := fun st M K _ => match st with
  | .int a1 :: .int a0 :: .ref 0 :: r => P a0 a1 M ∧ se_c8 8 r ∧ ∀ x M', Q a0 a1 M x M' → K (.int x :: r) M'
  | _ => False
def of_vIIrI (P : Int32 → Int32 → mM → Prop) (R : Int32 → Int32 → mM → Int32) (F : Int32 → Int32 → mM → mM) : se_Op mM := fun st M K _ => match st with
  | .int a1 :: .int a0 :: .ref 0 :: r => P a0 a1 M ∧ se_c8 8 r ∧ K (.int (R a0 a1 M) :: r) (F a0 a1 M)
  | _ => False
theorem ov_vIIrI_r {P : Int32 → Int32 → mM → Prop} {Q : Int32 → Int32 → mM → Int32 → mM → Prop} {a0 : Int32} {a1 : Int32} {r : List Value} {M : mM} {K : List Value → mM → Prop} {X : Nat → mM → Prop} : ov_vIIrI P Q (.int a1 :: .int a0 :: .ref 0 :: r) M K X = (P a0 a1 M ∧ se_c8 8 r ∧ ∀ x M', Q a0 a1 M x M' → K (.int x :: r) M') := rfl
theorem of_vIIrI_r {P : Int32 → Int32 → mM → Prop} {R : Int32 → Int32 → mM → Int32} {F : Int32 → Int32 → mM → mM} {a0 : Int32} {a1 : Int32} {r : List Value} {M : mM} {K : List Value → mM → Prop} {X : Nat → mM → Prop} : of_vIIrI P R F (.int a1 :: .int a0 :: .ref 0 :: r) M K X = (P a0 a1 M ∧ se_c8 8 r ∧ K (.int (R a0 a1 M) :: r) (F a0 a1 M)) := rfl
section
variable {p : Program} {l : Launch} {e : Env} {s : State} {m : MethodId} {args : Array Value} {below : List Frame} {meth : Method} {c : Code} {nL : Nat} {cc : ByteArray} {ret : Option FieldType} {Q0 : State → Prop} {g : mG} {H0 : Heap} {idx fr lo : Nat}
theorem ov_vIIrI_ok {y : MethodName} {cc' : ByteArray} {maxL' fr' lo' : Nat} {P : Int32 → Int32 → mM → Prop} {Q : Int32 → Int32 → mM → Int32 → mM → Prop} (hM : mc_vIIrI l y cc' maxL' fr' lo' P Q) (h1 : Cond.methodLink RX2 idx y ∈ lw_all) (h2 : Cond.instanceMethod y ∈ lw_all) (h3 : Cond.selects RX2 y y ∈ lw_all) (h4 : Cond.initialized RX2 ∈ lw_all) (h5 : Cond.code y cc' maxL' (some .int) ∈ lw_all) (hd0 : y.cls = RX2 ∧ y.cls ≠ "java/lang/invoke/MethodHandle" ∧ y.cls ≠ "java/lang/invoke/VarHandle" ∧ (parseMethodDescriptor y.desc).map (fun d => d.parameters.length) = some 2) (hR : fr' + 1 ≤ fr ∧ 8 + (maxL' + 11) + lo' ≤ lo) (C : se_Cx p s m args meth c cc nL RX2 ret) (hG : mGl g s) (hI : mInj g) : se_Snd p l e (mRoom fr lo) s m args below meth c Q0 nL g.1 (mRM g H0) cc (.invokevirtual idx) 3 (ov_vIIrI P Q) := by
  refine (oC_ok hM h1 h2 h3 h4 h5 hd0 hR C hG hI).mono fun st M K X h => ?_
  unfold ov_vIIrI at h
  split at h
  · rename_i a1 a0 r
    exact ⟨[.int a0, .int a1], r, rfl, rfl, h.2.1, ⟨a0, a1, rfl, h.1⟩, fun v M' hp => by
      obtain ⟨x, rfl, hq⟩ := hp a0 a1 rfl
      exact h.2.2 x M' hq⟩
  · exact h.elim
theorem of_vIIrI_ok {y : MethodName} {cc' : ByteArray} {maxL' fr' lo' : Nat} {P : Int32 → Int32 → mM → Prop} {R : Int32 → Int32 → mM → Int32} {F : Int32 → Int32 → mM → mM} (hM : mc_vIIrI l y cc' maxL' fr' lo' P (fun a0 a1 M x M' => x = R a0 a1 M ∧ M' = F a0 a1 M)) (h1 : Cond.methodLink RX2 idx y ∈ lw_all) (h2 : Cond.instanceMethod y ∈ lw_all) (h3 : Cond.selects RX2 y y ∈ lw_all) (h4 : Cond.initialized RX2 ∈ lw_all) (h5 : Cond.code y cc' maxL' (some .int) ∈ lw_all) (hd0 : y.cls = RX2 ∧ y.cls ≠ "java/lang/invoke/MethodHandle" ∧ y.cls ≠ "java/lang/invoke/VarHandle" ∧ (parseMethodDescriptor y.desc).map (fun d => d.parameters.length) = some 2) (hR : fr' + 1 ≤ fr ∧ 8 + (maxL' + 11) + lo' ≤ lo) (C : se_Cx p s m args meth c cc nL RX2 ret) (hG : mGl g s) (hI : mInj g) : se_Snd p l e (mRoom fr lo) s m args below meth c Q0 nL g.1 (mRM g H0) cc (.invokevirtual idx) 3 (of_vIIrI P R F) := by
  refine (ov_vIIrI_ok hM h1 h2 h3 h4 h5 hd0 hR C hG hI).mono fun st M K X h => ?_
  unfold of_vIIrI at h
  split at h
  · exact ⟨h.1, h.2.1, fun x M' hq => by
      obtain ⟨rfl, rfl⟩ := hq
      exact h.2.2⟩
  · exact h.elim
end
def rt_vIIrI (Q : Int32 → Int32 → mM → Int32 → mM → Prop) (a0 : Int32) (a1 : Int32) (M : mM) : Option Value → mM → Prop := fun v M' => se_nr (some .int) v ∧ (fun (av : List Value) (M : mM) (v : Option Value) (M' : mM) => ∀ (a0 : Int32) (a1 : Int32), av = [.ref 0, .int a0, .int a1] → ∃ x, v = some (.int x) ∧ Q a0 a1 M x M') [.ref 0, .int a0, .int a1] M v M'
theorem rt_vIIrI_e {Q : Int32 → Int32 → mM → Int32 → mM → Prop} {a0 : Int32} {a1 : Int32} {M M' : mM} {z : Int32} : rt_vIIrI Q a0 a1 M (some (.int z)) M' = (Q a0 a1 M z M') := by
  apply propext
  constructor
  · intro h
    obtain ⟨x, e, hq⟩ := h.2 a0 a1 rfl
    cases e
    exact hq
  · intro h
    exact ⟨⟨_, rfl, rfl⟩, fun _ _ e => by
      cases e
      exact ⟨z, rfl, h⟩⟩
theorem mc_vIIrI_of {l : Launch} {y : MethodName} {cc : ByteArray} {maxL fr lo : Nat} {P : Int32 → Int32 → mM → Prop} {Q : Int32 → Int32 → mM → Int32 → mM → Prop} {T : Nat → Nat → se_Op mM} (hy : plainName y.cls = true) (hyc : y.cls = RX2) (hT : mTS l cc maxL (some .int) fr lo T) (hL : 3 ≤ maxL)
    (body : ∀ (a0 : Int32) (a1 : Int32) (M : mM), P a0 a1 M → ∀ G : Nat → se_L → List Value → mM → Prop, (∀ (stops : List Nat) (n pc : Nat) (L : se_L) (st : List Value) (M' : mM), wpN False T cc stops G (fun _ _ _ _ => False) (rt_vIIrI Q a0 a1 M) n pc L st M' → G pc L st M') → G 0 (se_ent [.ref 0, .int a0, .int a1] maxL) [] M) : mc_vIIrI l y cc maxL fr lo P Q :=
  mOf hy hyc hT (fun av M h => by
    obtain ⟨a0, a1, rfl, _⟩ := h
    exact hL) (fun av M hp G hG => by
    obtain ⟨a0, a1, rfl, hp⟩ := hp
    exact body a0 a1 M hp G hG)
abbrev mc_vIIrJ (l : Launch) (y : MethodName) (cc : ByteArray) (maxL fr lo : Nat) (P : Int32 → Int32 → mM → Prop) (Q : Int32 → Int32 → mM → Int64 → mM → Prop) : Prop := mCon l y cc maxL (some .long) fr lo (fun av M => ∃ (a0 : Int32) (a1 : Int32), av = [.ref 0, .int a0, .int a1] ∧ P a0 a1 M) (fun av M v M' => ∀ (a0 : Int32) (a1 : Int32), av = [.ref 0, .int a0, .int a1] → ∃ x, v = some (.long x) ∧ Q a0 a1 M x M')
def ov_vIIrJ (P : Int32 → Int32 → mM → Prop) (Q : Int32 → Int32 → mM → Int64 → mM → Prop) : se_Op mM := fun st M K _ => match st with
  | .int a1 :: .int a0 :: .ref 0 :: r => P a0 a1 M ∧ se_c8 8 r ∧ ∀ x M', Q a0 a1 M x M' → K (.long x :: r) M'
  | _ => False
def of_vIIrJ (P : Int32 → Int32 → mM → Prop) (R : Int32 → Int32 → mM → Int64) (F : Int32 → Int32 → mM → mM) : se_Op mM := fun st M K _ => match st with
  | .int a1 :: .int a0 :: .ref 0 :: r => P a0 a1 M ∧ se_c8 8 r ∧ K (.long (R a0 a1 M) :: r) (F a0 a1 M)
  | _ => False
theorem ov_vIIrJ_r {P : Int32 → Int32 → mM → Prop} {Q : Int32 → Int32 → mM → Int64 → mM → Prop} {a0 : Int32} {a1 : Int32} {r : List Value} {M : mM} {K : List Value → mM → Prop} {X : Nat → mM → Prop} : ov_vIIrJ P Q (.int a1 :: .int a0 :: .ref 0 :: r) M K X = (P a0 a1 M ∧ se_c8 8 r ∧ ∀ x M', Q a0 a1 M x M' → K (.long x :: r) M') := rfl
theorem of_vIIrJ_r {P : Int32 → Int32 → mM → Prop} {R : Int32 → Int32 → mM → Int64} {F : Int32 → Int32 → mM → mM} {a0 : Int32} {a1 : Int32} {r : List Value} {M : mM} {K : List Value → mM → Prop} {X : Nat → mM → Prop} : of_vIIrJ P R F (.int a1 :: .int a0 :: .ref 0 :: r) M K X = (P a0 a1 M ∧ se_c8 8 r ∧ K (.long (R a0 a1 M) :: r) (F a0 a1 M)) := rfl
section
variable {p : Program} {l : Launch} {e : Env} {s : State} {m : MethodId} {args : Array Value} {below : List Frame} {meth : Method} {c : Code} {nL : Nat} {cc : ByteArray} {ret : Option FieldType} {Q0 : State → Prop} {g : mG} {H0 : Heap} {idx fr lo : Nat}
theorem ov_vIIrJ_ok {y : MethodName} {cc' : ByteArray} {maxL' fr' lo' : Nat} {P : Int32 → Int32 → mM → Prop} {Q : Int32 → Int32 → mM → Int64 → mM → Prop} (hM : mc_vIIrJ l y cc' maxL' fr' lo' P Q) (h1 : Cond.methodLink RX2 idx y ∈ lw_all) (h2 : Cond.instanceMethod y ∈ lw_all) (h3 : Cond.selects RX2 y y ∈ lw_all) (h4 : Cond.initialized RX2 ∈ lw_all) (h5 : Cond.code y cc' maxL' (some .long) ∈ lw_all) (hd0 : y.cls = RX2 ∧ y.cls ≠ "java/lang/invoke/MethodHandle" ∧ y.cls ≠ "java/lang/invoke/VarHandle" ∧ (parseMethodDescriptor y.desc).map (fun d => d.parameters.length) = some 2) (hR : fr' + 1 ≤ fr ∧ 8 + (maxL' + 11) + lo' ≤ lo) (C : se_Cx p s m args meth c cc nL RX2 ret) (hG : mGl g s) (hI : mInj g) : se_Snd p l e (mRoom fr lo) s m args below meth c Q0 nL g.1 (mRM g H0) cc (.invokevirtual idx) 3 (ov_vIIrJ P Q) := by
  refine (oC_ok hM h1 h2 h3 h4 h5 hd0 hR C hG hI).mono fun st M K X h => ?_
  unfold ov_vIIrJ at h
  split at h
  · rename_i a1 a0 r
    exact ⟨[.int a0, .int a1], r, rfl, rfl, h.2.1, ⟨a0, a1, rfl, h.1⟩, fun v M' hp => by
      obtain ⟨x, rfl, hq⟩ := hp a0 a1 rfl
      exact h.2.2 x M' hq⟩
  · exact h.elim
theorem of_vIIrJ_ok {y : MethodName} {cc' : ByteArray} {maxL' fr' lo' : Nat} {P : Int32 → Int32 → mM → Prop} {R : Int32 → Int32 → mM → Int64} {F : Int32 → Int32 → mM → mM} (hM : mc_vIIrJ l y cc' maxL' fr' lo' P (fun a0 a1 M x M' => x = R a0 a1 M ∧ M' = F a0 a1 M)) (h1 : Cond.methodLink RX2 idx y ∈ lw_all) (h2 : Cond.instanceMethod y ∈ lw_all) (h3 : Cond.selects RX2 y y ∈ lw_all) (h4 : Cond.initialized RX2 ∈ lw_all) (h5 : Cond.code y cc' maxL' (some .long) ∈ lw_all) (hd0 : y.cls = RX2 ∧ y.cls ≠ "java/lang/invoke/MethodHandle" ∧ y.cls ≠ "java/lang/invoke/VarHandle" ∧ (parseMethodDescriptor y.desc).map (fun d => d.parameters.length) = some 2) (hR : fr' + 1 ≤ fr ∧ 8 + (maxL' + 11) + lo' ≤ lo) (C : se_Cx p s m args meth c cc nL RX2 ret) (hG : mGl g s) (hI : mInj g) : se_Snd p l e (mRoom fr lo) s m args below meth c Q0 nL g.1 (mRM g H0) cc (.invokevirtual idx) 3 (of_vIIrJ P R F) := by
  refine (ov_vIIrJ_ok hM h1 h2 h3 h4 h5 hd0 hR C hG hI).mono fun st M K X h => ?_
  unfold of_vIIrJ at h
  split at h
  · exact ⟨h.1, h.2.1, fun x M' hq => by
      obtain ⟨rfl, rfl⟩ := hq
      exact h.2.2⟩
  · exact h.elim
end
def rt_vIIrJ (Q : Int32 → Int32 → mM → Int64 → mM → Prop) (a0 : Int32) (a1 : Int32) (M : mM) : Option Value → mM → Prop := fun v M' => se_nr (some .long) v ∧ (fun (av : List Value) (M : mM) (v : Option Value) (M' : mM) => ∀ (a0 : Int32) (a1 : Int32), av = [.ref 0, .int a0, .int a1] → ∃ x, v = some (.long x) ∧ Q a0 a1 M x M') [.ref 0, .int a0, .int a1] M v M'
theorem rt_vIIrJ_e {Q : Int32 → Int32 → mM → Int64 → mM → Prop} {a0 : Int32} {a1 : Int32} {M M' : mM} {z : Int64} : rt_vIIrJ Q a0 a1 M (some (.long z)) M' = (Q a0 a1 M z M') := by
  apply propext
  constructor
  · intro h
    obtain ⟨x, e, hq⟩ := h.2 a0 a1 rfl
    cases e
    exact hq
  · intro h
    exact ⟨rfl, fun _ _ e => by
      cases e
      exact ⟨z, rfl, h⟩⟩
theorem mc_vIIrJ_of {l : Launch} {y : MethodName} {cc : ByteArray} {maxL fr lo : Nat} {P : Int32 → Int32 → mM → Prop} {Q : Int32 → Int32 → mM → Int64 → mM → Prop} {T : Nat → Nat → se_Op mM} (hy : plainName y.cls = true) (hyc : y.cls = RX2) (hT : mTS l cc maxL (some .long) fr lo T) (hL : 3 ≤ maxL)
    (body : ∀ (a0 : Int32) (a1 : Int32) (M : mM), P a0 a1 M → ∀ G : Nat → se_L → List Value → mM → Prop, (∀ (stops : List Nat) (n pc : Nat) (L : se_L) (st : List Value) (M' : mM), wpN False T cc stops G (fun _ _ _ _ => False) (rt_vIIrJ Q a0 a1 M) n pc L st M' → G pc L st M') → G 0 (se_ent [.ref 0, .int a0, .int a1] maxL) [] M) : mc_vIIrJ l y cc maxL fr lo P Q :=
  mOf hy hyc hT (fun av M h => by
    obtain ⟨a0, a1, rfl, _⟩ := h
    exact hL) (fun av M hp G hG => by
    obtain ⟨a0, a1, rfl, hp⟩ := hp
    exact body a0 a1 M hp G hG)
abbrev mc_vIIrV (l : Launch) (y : MethodName) (cc : ByteArray) (maxL fr lo : Nat) (P : Int32 → Int32 → mM → Prop) (Q : Int32 → Int32 → mM → mM → Prop) : Prop := mCon l y cc maxL none fr lo (fun av M => ∃ (a0 : Int32) (a1 : Int32), av = [.ref 0, .int a0, .int a1] ∧ P a0 a1 M) (fun av M v M' => ∀ (a0 : Int32) (a1 : Int32), av = [.ref 0, .int a0, .int a1] → v = none ∧ Q a0 a1 M M')
def ov_vIIrV (P : Int32 → Int32 → mM → Prop) (Q : Int32 → Int32 → mM → mM → Prop) : se_Op mM := fun st M K _ => match st with
  | .int a1 :: .int a0 :: .ref 0 :: r => P a0 a1 M ∧ se_c8 8 r ∧ ∀ M', Q a0 a1 M M' → K r M'
  | _ => False
def of_vIIrV (P : Int32 → Int32 → mM → Prop) (F : Int32 → Int32 → mM → mM) : se_Op mM := fun st M K _ => match st with
  | .int a1 :: .int a0 :: .ref 0 :: r => P a0 a1 M ∧ se_c8 8 r ∧ K r (F a0 a1 M)
  | _ => False
theorem ov_vIIrV_r {P : Int32 → Int32 → mM → Prop} {Q : Int32 → Int32 → mM → mM → Prop} {a0 : Int32} {a1 : Int32} {r : List Value} {M : mM} {K : List Value → mM → Prop} {X : Nat → mM → Prop} : ov_vIIrV P Q (.int a1 :: .int a0 :: .ref 0 :: r) M K X = (P a0 a1 M ∧ se_c8 8 r ∧ ∀ M', Q a0 a1 M M' → K r M') := rfl
theorem of_vIIrV_r {P : Int32 → Int32 → mM → Prop} {F : Int32 → Int32 → mM → mM} {a0 : Int32} {a1 : Int32} {r : List Value} {M : mM} {K : List Value → mM → Prop} {X : Nat → mM → Prop} : of_vIIrV P F (.int a1 :: .int a0 :: .ref 0 :: r) M K X = (P a0 a1 M ∧ se_c8 8 r ∧ K r (F a0 a1 M)) := rfl
section
variable {p : Program} {l : Launch} {e : Env} {s : State} {m : MethodId} {args : Array Value} {below : List Frame} {meth : Method} {c : Code} {nL : Nat} {cc : ByteArray} {ret : Option FieldType} {Q0 : State → Prop} {g : mG} {H0 : Heap} {idx fr lo : Nat}
theorem ov_vIIrV_ok {y : MethodName} {cc' : ByteArray} {maxL' fr' lo' : Nat} {P : Int32 → Int32 → mM → Prop} {Q : Int32 → Int32 → mM → mM → Prop} (hM : mc_vIIrV l y cc' maxL' fr' lo' P Q) (h1 : Cond.methodLink RX2 idx y ∈ lw_all) (h2 : Cond.instanceMethod y ∈ lw_all) (h3 : Cond.selects RX2 y y ∈ lw_all) (h4 : Cond.initialized RX2 ∈ lw_all) (h5 : Cond.code y cc' maxL' none ∈ lw_all) (hd0 : y.cls = RX2 ∧ y.cls ≠ "java/lang/invoke/MethodHandle" ∧ y.cls ≠ "java/lang/invoke/VarHandle" ∧ (parseMethodDescriptor y.desc).map (fun d => d.parameters.length) = some 2) (hR : fr' + 1 ≤ fr ∧ 8 + (maxL' + 11) + lo' ≤ lo) (C : se_Cx p s m args meth c cc nL RX2 ret) (hG : mGl g s) (hI : mInj g) : se_Snd p l e (mRoom fr lo) s m args below meth c Q0 nL g.1 (mRM g H0) cc (.invokevirtual idx) 3 (ov_vIIrV P Q) := by
  refine (oC_ok hM h1 h2 h3 h4 h5 hd0 hR C hG hI).mono fun st M K X h => ?_
  unfold ov_vIIrV at h
  split at h
  · rename_i a1 a0 r
    exact ⟨[.int a0, .int a1], r, rfl, rfl, h.2.1, ⟨a0, a1, rfl, h.1⟩, fun v M' hp => by
      obtain ⟨rfl, hq⟩ := hp a0 a1 rfl
      exact h.2.2 M' hq⟩
  · exact h.elim
theorem of_vIIrV_ok {y : MethodName} {cc' : ByteArray} {maxL' fr' lo' : Nat} {P : Int32 → Int32 → mM → Prop} {F : Int32 → Int32 → mM → mM} (hM : mc_vIIrV l y cc' maxL' fr' lo' P (fun a0 a1 M M' => M' = F a0 a1 M)) (h1 : Cond.methodLink RX2 idx y ∈ lw_all) (h2 : Cond.instanceMethod y ∈ lw_all) (h3 : Cond.selects RX2 y y ∈ lw_all) (h4 : Cond.initialized RX2 ∈ lw_all) (h5 : Cond.code y cc' maxL' none ∈ lw_all) (hd0 : y.cls = RX2 ∧ y.cls ≠ "java/lang/invoke/MethodHandle" ∧ y.cls ≠ "java/lang/invoke/VarHandle" ∧ (parseMethodDescriptor y.desc).map (fun d => d.parameters.length) = some 2) (hR : fr' + 1 ≤ fr ∧ 8 + (maxL' + 11) + lo' ≤ lo) (C : se_Cx p s m args meth c cc nL RX2 ret) (hG : mGl g s) (hI : mInj g) : se_Snd p l e (mRoom fr lo) s m args below meth c Q0 nL g.1 (mRM g H0) cc (.invokevirtual idx) 3 (of_vIIrV P F) := by
  refine (ov_vIIrV_ok hM h1 h2 h3 h4 h5 hd0 hR C hG hI).mono fun st M K X h => ?_
  unfold of_vIIrV at h
  split at h
  · exact ⟨h.1, h.2.1, fun M' hq => by
      subst hq
      exact h.2.2⟩
  · exact h.elim
end
def rt_vIIrV (Q : Int32 → Int32 → mM → mM → Prop) (a0 : Int32) (a1 : Int32) (M : mM) : Option Value → mM → Prop := fun v M' => se_nr none v ∧ (fun (av : List Value) (M : mM) (v : Option Value) (M' : mM) => ∀ (a0 : Int32) (a1 : Int32), av = [.ref 0, .int a0, .int a1] → v = none ∧ Q a0 a1 M M') [.ref 0, .int a0, .int a1] M v M'
theorem rt_vIIrV_e {Q : Int32 → Int32 → mM → mM → Prop} {a0 : Int32} {a1 : Int32} {M M' : mM}  : rt_vIIrV Q a0 a1 M none M' = (Q a0 a1 M M') := by
  apply propext
  constructor
  · intro h
    exact (h.2 a0 a1 rfl).2
  · intro h
    exact ⟨rfl, fun _ _ e => by
      cases e
      exact ⟨rfl, h⟩⟩
theorem mc_vIIrV_of {l : Launch} {y : MethodName} {cc : ByteArray} {maxL fr lo : Nat} {P : Int32 → Int32 → mM → Prop} {Q : Int32 → Int32 → mM → mM → Prop} {T : Nat → Nat → se_Op mM} (hy : plainName y.cls = true) (hyc : y.cls = RX2) (hT : mTS l cc maxL none fr lo T) (hL : 3 ≤ maxL)
    (body : ∀ (a0 : Int32) (a1 : Int32) (M : mM), P a0 a1 M → ∀ G : Nat → se_L → List Value → mM → Prop, (∀ (stops : List Nat) (n pc : Nat) (L : se_L) (st : List Value) (M' : mM), wpN False T cc stops G (fun _ _ _ _ => False) (rt_vIIrV Q a0 a1 M) n pc L st M' → G pc L st M') → G 0 (se_ent [.ref 0, .int a0, .int a1] maxL) [] M) : mc_vIIrV l y cc maxL fr lo P Q :=
  mOf hy hyc hT (fun av M h => by
    obtain ⟨a0, a1, rfl, _⟩ := h
    exact hL) (fun av M hp G hG => by
    obtain ⟨a0, a1, rfl, hp⟩ := hp
    exact body a0 a1 M hp G hG)
abbrev mc_vIIrZ (l : Launch) (y : MethodName) (cc : ByteArray) (maxL fr lo : Nat) (P : Int32 → Int32 → mM → Prop) (Q : Int32 → Int32 → mM → Bool → mM → Prop) : Prop := mCon l y cc maxL (some .boolean) fr lo (fun av M => ∃ (a0 : Int32) (a1 : Int32), av = [.ref 0, .int a0, .int a1] ∧ P a0 a1 M) (fun av M v M' => ∀ (a0 : Int32) (a1 : Int32), av = [.ref 0, .int a0, .int a1] → ∃ x, v = some (.int (bI x)) ∧ Q a0 a1 M x M')
def ov_vIIrZ (P : Int32 → Int32 → mM → Prop) (Q : Int32 → Int32 → mM → Bool → mM → Prop) : se_Op mM := fun st M K _ => match st with
  | .int a1 :: .int a0 :: .ref 0 :: r => P a0 a1 M ∧ se_c8 8 r ∧ ∀ x M', Q a0 a1 M x M' → K (.int (bI x) :: r) M'
  | _ => False
def of_vIIrZ (P : Int32 → Int32 → mM → Prop) (R : Int32 → Int32 → mM → Bool) (F : Int32 → Int32 → mM → mM) : se_Op mM := fun st M K _ => match st with
  | .int a1 :: .int a0 :: .ref 0 :: r => P a0 a1 M ∧ se_c8 8 r ∧ K (.int (bI (R a0 a1 M)) :: r) (F a0 a1 M)
  | _ => False
theorem ov_vIIrZ_r {P : Int32 → Int32 → mM → Prop} {Q : Int32 → Int32 → mM → Bool → mM → Prop} {a0 : Int32} {a1 : Int32} {r : List Value} {M : mM} {K : List Value → mM → Prop} {X : Nat → mM → Prop} : ov_vIIrZ P Q (.int a1 :: .int a0 :: .ref 0 :: r) M K X = (P a0 a1 M ∧ se_c8 8 r ∧ ∀ x M', Q a0 a1 M x M' → K (.int (bI x) :: r) M') := rfl
theorem of_vIIrZ_r {P : Int32 → Int32 → mM → Prop} {R : Int32 → Int32 → mM → Bool} {F : Int32 → Int32 → mM → mM} {a0 : Int32} {a1 : Int32} {r : List Value} {M : mM} {K : List Value → mM → Prop} {X : Nat → mM → Prop} : of_vIIrZ P R F (.int a1 :: .int a0 :: .ref 0 :: r) M K X = (P a0 a1 M ∧ se_c8 8 r ∧ K (.int (bI (R a0 a1 M)) :: r) (F a0 a1 M)) := rfl
section
variable {p : Program} {l : Launch} {e : Env} {s : State} {m : MethodId} {args : Array Value} {below : List Frame} {meth : Method} {c : Code} {nL : Nat} {cc : ByteArray} {ret : Option FieldType} {Q0 : State → Prop} {g : mG} {H0 : Heap} {idx fr lo : Nat}
theorem ov_vIIrZ_ok {y : MethodName} {cc' : ByteArray} {maxL' fr' lo' : Nat} {P : Int32 → Int32 → mM → Prop} {Q : Int32 → Int32 → mM → Bool → mM → Prop} (hM : mc_vIIrZ l y cc' maxL' fr' lo' P Q) (h1 : Cond.methodLink RX2 idx y ∈ lw_all) (h2 : Cond.instanceMethod y ∈ lw_all) (h3 : Cond.selects RX2 y y ∈ lw_all) (h4 : Cond.initialized RX2 ∈ lw_all) (h5 : Cond.code y cc' maxL' (some .boolean) ∈ lw_all) (hd0 : y.cls = RX2 ∧ y.cls ≠ "java/lang/invoke/MethodHandle" ∧ y.cls ≠ "java/lang/invoke/VarHandle" ∧ (parseMethodDescriptor y.desc).map (fun d => d.parameters.length) = some 2) (hR : fr' + 1 ≤ fr ∧ 8 + (maxL' + 11) + lo' ≤ lo) (C : se_Cx p s m args meth c cc nL RX2 ret) (hG : mGl g s) (hI : mInj g) : se_Snd p l e (mRoom fr lo) s m args below meth c Q0 nL g.1 (mRM g H0) cc (.invokevirtual idx) 3 (ov_vIIrZ P Q) := by
  refine (oC_ok hM h1 h2 h3 h4 h5 hd0 hR C hG hI).mono fun st M K X h => ?_
  unfold ov_vIIrZ at h
  split at h
  · rename_i a1 a0 r
    exact ⟨[.int a0, .int a1], r, rfl, rfl, h.2.1, ⟨a0, a1, rfl, h.1⟩, fun v M' hp => by
      obtain ⟨x, rfl, hq⟩ := hp a0 a1 rfl
      exact h.2.2 x M' hq⟩
  · exact h.elim
theorem of_vIIrZ_ok {y : MethodName} {cc' : ByteArray} {maxL' fr' lo' : Nat} {P : Int32 → Int32 → mM → Prop} {R : Int32 → Int32 → mM → Bool} {F : Int32 → Int32 → mM → mM} (hM : mc_vIIrZ l y cc' maxL' fr' lo' P (fun a0 a1 M x M' => x = R a0 a1 M ∧ M' = F a0 a1 M)) (h1 : Cond.methodLink RX2 idx y ∈ lw_all) (h2 : Cond.instanceMethod y ∈ lw_all) (h3 : Cond.selects RX2 y y ∈ lw_all) (h4 : Cond.initialized RX2 ∈ lw_all) (h5 : Cond.code y cc' maxL' (some .boolean) ∈ lw_all) (hd0 : y.cls = RX2 ∧ y.cls ≠ "java/lang/invoke/MethodHandle" ∧ y.cls ≠ "java/lang/invoke/VarHandle" ∧ (parseMethodDescriptor y.desc).map (fun d => d.parameters.length) = some 2) (hR : fr' + 1 ≤ fr ∧ 8 + (maxL' + 11) + lo' ≤ lo) (C : se_Cx p s m args meth c cc nL RX2 ret) (hG : mGl g s) (hI : mInj g) : se_Snd p l e (mRoom fr lo) s m args below meth c Q0 nL g.1 (mRM g H0) cc (.invokevirtual idx) 3 (of_vIIrZ P R F) := by
  refine (ov_vIIrZ_ok hM h1 h2 h3 h4 h5 hd0 hR C hG hI).mono fun st M K X h => ?_
  unfold of_vIIrZ at h
  split at h
  · exact ⟨h.1, h.2.1, fun x M' hq => by
      obtain ⟨rfl, rfl⟩ := hq
      exact h.2.2⟩
  · exact h.elim
end
def rt_vIIrZ (Q : Int32 → Int32 → mM → Bool → mM → Prop) (a0 : Int32) (a1 : Int32) (M : mM) : Option Value → mM → Prop := fun v M' => se_nr (some .boolean) v ∧ (fun (av : List Value) (M : mM) (v : Option Value) (M' : mM) => ∀ (a0 : Int32) (a1 : Int32), av = [.ref 0, .int a0, .int a1] → ∃ x, v = some (.int (bI x)) ∧ Q a0 a1 M x M') [.ref 0, .int a0, .int a1] M v M'
theorem rt_vIIrZ_e {Q : Int32 → Int32 → mM → Bool → mM → Prop} {a0 : Int32} {a1 : Int32} {M M' : mM} {z : Int32} : rt_vIIrZ Q a0 a1 M (some (.int z)) M' = (rz z fun x => Q a0 a1 M x M') := by
  apply propext
  constructor
  · intro h
    obtain ⟨x, e, hq⟩ := h.2 a0 a1 rfl
    cases e
    exact ⟨x, rfl, hq⟩
  · intro h
    obtain ⟨x, rfl, hq⟩ := h
    exact ⟨⟨_, rfl, bI_nar x⟩, fun _ _ e => by
      cases e
      exact ⟨x, rfl, hq⟩⟩
theorem mc_vIIrZ_of {l : Launch} {y : MethodName} {cc : ByteArray} {maxL fr lo : Nat} {P : Int32 → Int32 → mM → Prop} {Q : Int32 → Int32 → mM → Bool → mM → Prop} {T : Nat → Nat → se_Op mM} (hy : plainName y.cls = true) (hyc : y.cls = RX2) (hT : mTS l cc maxL (some .boolean) fr lo T) (hL : 3 ≤ maxL)
    (body : ∀ (a0 : Int32) (a1 : Int32) (M : mM), P a0 a1 M → ∀ G : Nat → se_L → List Value → mM → Prop, (∀ (stops : List Nat) (n pc : Nat) (L : se_L) (st : List Value) (M' : mM), wpN False T cc stops G (fun _ _ _ _ => False) (rt_vIIrZ Q a0 a1 M) n pc L st M' → G pc L st M') → G 0 (se_ent [.ref 0, .int a0, .int a1] maxL) [] M) : mc_vIIrZ l y cc maxL fr lo P Q :=
  mOf hy hyc hT (fun av M h => by
    obtain ⟨a0, a1, rfl, _⟩ := h
    exact hL) (fun av M hp G hG => by
    obtain ⟨a0, a1, rfl, hp⟩ := hp
    exact body a0 a1 M hp G hG)
abbrev mc_vIIIrI (l : Launch) (y : MethodName) (cc : ByteArray) (maxL fr lo : Nat) (P : Int32 → Int32 → Int32 → mM → Prop) (Q : Int32 → Int32 → Int32 → mM → Int32 → mM → Prop) : Prop := mCon l y cc maxL (some .int) fr lo (fun av M => ∃ (a0 : Int32) (a1 : Int32) (a2 : Int32), av = [.ref 0, .int a0, .int a1, .int a2] ∧ P a0 a1 a2 M) (fun av M v M' => ∀ (a0 : Int32) (a1 : Int32) (a2 : Int32), av = [.ref 0, .int a0, .int a1, .int a2] → ∃ x, v = some (.int x) ∧ Q a0 a1 a2 M x M')
def ov_vIIIrI (P : Int32 → Int32 → Int32 → mM → Prop) (Q : Int32 → Int32 → Int32 → mM → Int32 → mM → Prop) : se_Op mM := fun st M K _ => match st with
  | .int a2 :: .int a1 :: .int a0 :: .ref 0 :: r => P a0 a1 a2 M ∧ se_c8 8 r ∧ ∀ x M', Q a0 a1 a2 M x M' → K (.int x :: r) M'
  | _ => False
def of_vIIIrI (P : Int32 → Int32 → Int32 → mM → Prop) (R : Int32 → Int32 → Int32 → mM → Int32) (F : Int32 → Int32 → Int32 → mM → mM) : se_Op mM := fun st M K _ => match st with
  | .int a2 :: .int a1 :: .int a0 :: .ref 0 :: r => P a0 a1 a2 M ∧ se_c8 8 r ∧ K (.int (R a0 a1 a2 M) :: r) (F a0 a1 a2 M)
  | _ => False
theorem ov_vIIIrI_r {P : Int32 → Int32 → Int32 → mM → Prop} {Q : Int32 → Int32 → Int32 → mM → Int32 → mM → Prop} {a0 : Int32} {a1 : Int32} {a2 : Int32} {r : List Value} {M : mM} {K : List Value → mM → Prop} {X : Nat → mM → Prop} : ov_vIIIrI P Q (.int a2 :: .int a1 :: .int a0 :: .ref 0 :: r) M K X = (P a0 a1 a2 M ∧ se_c8 8 r ∧ ∀ x M', Q a0 a1 a2 M x M' → K (.int x :: r) M') := rfl
theorem of_vIIIrI_r {P : Int32 → Int32 → Int32 → mM → Prop} {R : Int32 → Int32 → Int32 → mM → Int32} {F : Int32 → Int32 → Int32 → mM → mM} {a0 : Int32} {a1 : Int32} {a2 : Int32} {r : List Value} {M : mM} {K : List Value → mM → Prop} {X : Nat → mM → Prop} : of_vIIIrI P R F (.int a2 :: .int a1 :: .int a0 :: .ref 0 :: r) M K X = (P a0 a1 a2 M ∧ se_c8 8 r ∧ K (.int (R a0 a1 a2 M) :: r) (F a0 a1 a2 M)) := rfl
section
variable {p : Program} {l : Launch} {e : Env} {s : State} {m : MethodId} {args : Array Value} {below : List Frame} {meth : Method} {c : Code} {nL : Nat} {cc : ByteArray} {ret : Option FieldType} {Q0 : State → Prop} {g : mG} {H0 : Heap} {idx fr lo : Nat}
theorem ov_vIIIrI_ok {y : MethodName} {cc' : ByteArray} {maxL' fr' lo' : Nat} {P : Int32 → Int32 → Int32 → mM → Prop} {Q : Int32 → Int32 → Int32 → mM → Int32 → mM → Prop} (hM : mc_vIIIrI l y cc' maxL' fr' lo' P Q) (h1 : Cond.methodLink RX2 idx y ∈ lw_all) (h2 : Cond.instanceMethod y ∈ lw_all) (h3 : Cond.selects RX2 y y ∈ lw_all) (h4 : Cond.initialized RX2 ∈ lw_all) (h5 : Cond.code y cc' maxL' (some .int) ∈ lw_all) (hd0 : y.cls = RX2 ∧ y.cls ≠ "java/lang/invoke/MethodHandle" ∧ y.cls ≠ "java/lang/invoke/VarHandle" ∧ (parseMethodDescriptor y.desc).map (fun d => d.parameters.length) = some 3) (hR : fr' + 1 ≤ fr ∧ 8 + (maxL' + 11) + lo' ≤ lo) (C : se_Cx p s m args meth c cc nL RX2 ret) (hG : mGl g s) (hI : mInj g) : se_Snd p l e (mRoom fr lo) s m args below meth c Q0 nL g.1 (mRM g H0) cc (.invokevirtual idx) 3 (ov_vIIIrI P Q) := by
  refine (oC_ok hM h1 h2 h3 h4 h5 hd0 hR C hG hI).mono fun st M K X h => ?_
  unfold ov_vIIIrI at h
  split at h
  · rename_i a2 a1 a0 r
    exact ⟨[.int a0, .int a1, .int a2], r, rfl, rfl, h.2.1, ⟨a0, a1, a2, rfl, h.1⟩, fun v M' hp => by
      obtain ⟨x, rfl, hq⟩ := hp a0 a1 a2 rfl
      exact h.2.2 x M' hq⟩
  · exact h.elim
theorem of_vIIIrI_ok {y : MethodName} {cc' : ByteArray} {maxL' fr' lo' : Nat} {P : Int32 → Int32 → Int32 → mM → Prop} {R : Int32 → Int32 → Int32 → mM → Int32} {F : Int32 → Int32 → Int32 → mM → mM} (hM : mc_vIIIrI l y cc' maxL' fr' lo' P (fun a0 a1 a2 M x M' => x = R a0 a1 a2 M ∧ M' = F a0 a1 a2 M)) (h1 : Cond.methodLink RX2 idx y ∈ lw_all) (h2 : Cond.instanceMethod y ∈ lw_all) (h3 : Cond.selects RX2 y y ∈ lw_all) (h4 : Cond.initialized RX2 ∈ lw_all) (h5 : Cond.code y cc' maxL' (some .int) ∈ lw_all) (hd0 : y.cls = RX2 ∧ y.cls ≠ "java/lang/invoke/MethodHandle" ∧ y.cls ≠ "java/lang/invoke/VarHandle" ∧ (parseMethodDescriptor y.desc).map (fun d => d.parameters.length) = some 3) (hR : fr' + 1 ≤ fr ∧ 8 + (maxL' + 11) + lo' ≤ lo) (C : se_Cx p s m args meth c cc nL RX2 ret) (hG : mGl g s) (hI : mInj g) : se_Snd p l e (mRoom fr lo) s m args below meth c Q0 nL g.1 (mRM g H0) cc (.invokevirtual idx) 3 (of_vIIIrI P R F) := by
  refine (ov_vIIIrI_ok hM h1 h2 h3 h4 h5 hd0 hR C hG hI).mono fun st M K X h => ?_
  unfold of_vIIIrI at h
  split at h
  · exact ⟨h.1, h.2.1, fun x M' hq => by
      obtain ⟨rfl, rfl⟩ := hq
      exact h.2.2⟩
  · exact h.elim
end
def rt_vIIIrI (Q : Int32 → Int32 → Int32 → mM → Int32 → mM → Prop) (a0 : Int32) (a1 : Int32) (a2 : Int32) (M : mM) : Option Value → mM → Prop := fun v M' => se_nr (some .int) v ∧ (fun (av : List Value) (M : mM) (v : Option Value) (M' : mM) => ∀ (a0 : Int32) (a1 : Int32) (a2 : Int32), av = [.ref 0, .int a0, .int a1, .int a2] → ∃ x, v = some (.int x) ∧ Q a0 a1 a2 M x M') [.ref 0, .int a0, .int a1, .int a2] M v M'
theorem rt_vIIIrI_e {Q : Int32 → Int32 → Int32 → mM → Int32 → mM → Prop} {a0 : Int32} {a1 : Int32} {a2 : Int32} {M M' : mM} {z : Int32} : rt_vIIIrI Q a0 a1 a2 M (some (.int z)) M' = (Q a0 a1 a2 M z M') := by
  apply propext
  constructor
  · intro h
    obtain ⟨x, e, hq⟩ := h.2 a0 a1 a2 rfl
    cases e
    exact hq
  · intro h
    exact ⟨⟨_, rfl, rfl⟩, fun _ _ _ e => by
      cases e
      exact ⟨z, rfl, h⟩⟩
theorem mc_vIIIrI_of {l : Launch} {y : MethodName} {cc : ByteArray} {maxL fr lo : Nat} {P : Int32 → Int32 → Int32 → mM → Prop} {Q : Int32 → Int32 → Int32 → mM → Int32 → mM → Prop} {T : Nat → Nat → se_Op mM} (hy : plainName y.cls = true) (hyc : y.cls = RX2) (hT : mTS l cc maxL (some .int) fr lo T) (hL : 4 ≤ maxL)
    (body : ∀ (a0 : Int32) (a1 : Int32) (a2 : Int32) (M : mM), P a0 a1 a2 M → ∀ G : Nat → se_L → List Value → mM → Prop, (∀ (stops : List Nat) (n pc : Nat) (L : se_L) (st : List Value) (M' : mM), wpN False T cc stops G (fun _ _ _ _ => False) (rt_vIIIrI Q a0 a1 a2 M) n pc L st M' → G pc L st M') → G 0 (se_ent [.ref 0, .int a0, .int a1, .int a2] maxL) [] M) : mc_vIIIrI l y cc maxL fr lo P Q :=
  mOf hy hyc hT (fun av M h => by
    obtain ⟨a0, a1, a2, rfl, _⟩ := h
    exact hL) (fun av M hp G hG => by
    obtain ⟨a0, a1, a2, rfl, hp⟩ := hp
    exact body a0 a1 a2 M hp G hG)
abbrev mc_vIIIrJ (l : Launch) (y : MethodName) (cc : ByteArray) (maxL fr lo : Nat) (P : Int32 → Int32 → Int32 → mM → Prop) (Q : Int32 → Int32 → Int32 → mM → Int64 → mM → Prop) : Prop := mCon l y cc maxL (some .long) fr lo (fun av M => ∃ (a0 : Int32) (a1 : Int32) (a2 : Int32), av = [.ref 0, .int a0, .int a1, .int a2] ∧ P a0 a1 a2 M) (fun av M v M' => ∀ (a0 : Int32) (a1 : Int32) (a2 : Int32), av = [.ref 0, .int a0, .int a1, .int a2] → ∃ x, v = some (.long x) ∧ Q a0 a1 a2 M x M')
def ov_vIIIrJ (P : Int32 → Int32 → Int32 → mM → Prop) (Q : Int32 → Int32 → Int32 → mM → Int64 → mM → Prop) : se_Op mM := fun st M K _ => match st with
  | .int a2 :: .int a1 :: .int a0 :: .ref 0 :: r => P a0 a1 a2 M ∧ se_c8 8 r ∧ ∀ x M', Q a0 a1 a2 M x M' → K (.long x :: r) M'
  | _ => False
def of_vIIIrJ (P : Int32 → Int32 → Int32 → mM → Prop) (R : Int32 → Int32 → Int32 → mM → Int64) (F : Int32 → Int32 → Int32 → mM → mM) : se_Op mM := fun st M K _ => match st with
  | .int a2 :: .int a1 :: .int a0 :: .ref 0 :: r => P a0 a1 a2 M ∧ se_c8 8 r ∧ K (.long (R a0 a1 a2 M) :: r) (F a0 a1 a2 M)
  | _ => False
theorem ov_vIIIrJ_r {P : Int32 → Int32 → Int32 → mM → Prop} {Q : Int32 → Int32 → Int32 → mM → Int64 → mM → Prop} {a0 : Int32} {a1 : Int32} {a2 : Int32} {r : List Value} {M : mM} {K : List Value → mM → Prop} {X : Nat → mM → Prop} : ov_vIIIrJ P Q (.int a2 :: .int a1 :: .int a0 :: .ref 0 :: r) M K X = (P a0 a1 a2 M ∧ se_c8 8 r ∧ ∀ x M', Q a0 a1 a2 M x M' → K (.long x :: r) M') := rfl
theorem of_vIIIrJ_r {P : Int32 → Int32 → Int32 → mM → Prop} {R : Int32 → Int32 → Int32 → mM → Int64} {F : Int32 → Int32 → Int32 → mM → mM} {a0 : Int32} {a1 : Int32} {a2 : Int32} {r : List Value} {M : mM} {K : List Value → mM → Prop} {X : Nat → mM → Prop} : of_vIIIrJ P R F (.int a2 :: .int a1 :: .int a0 :: .ref 0 :: r) M K X = (P a0 a1 a2 M ∧ se_c8 8 r ∧ K (.long (R a0 a1 a2 M) :: r) (F a0 a1 a2 M)) := rfl
section
variable {p : Program} {l : Launch} {e : Env} {s : State} {m : MethodId} {args : Array Value} {below : List Frame} {meth : Method} {c : Code} {nL : Nat} {cc : ByteArray} {ret : Option FieldType} {Q0 : State → Prop} {g : mG} {H0 : Heap} {idx fr lo : Nat}
theorem ov_vIIIrJ_ok {y : MethodName} {cc' : ByteArray} {maxL' fr' lo' : Nat} {P : Int32 → Int32 → Int32 → mM → Prop} {Q : Int32 → Int32 → Int32 → mM → Int64 → mM → Prop} (hM : mc_vIIIrJ l y cc' maxL' fr' lo' P Q) (h1 : Cond.methodLink RX2 idx y ∈ lw_all) (h2 : Cond.instanceMethod y ∈ lw_all) (h3 : Cond.selects RX2 y y ∈ lw_all) (h4 : Cond.initialized RX2 ∈ lw_all) (h5 : Cond.code y cc' maxL' (some .long) ∈ lw_all) (hd0 : y.cls = RX2 ∧ y.cls ≠ "java/lang/invoke/MethodHandle" ∧ y.cls ≠ "java/lang/invoke/VarHandle" ∧ (parseMethodDescriptor y.desc).map (fun d => d.parameters.length) = some 3) (hR : fr' + 1 ≤ fr ∧ 8 + (maxL' + 11) + lo' ≤ lo) (C : se_Cx p s m args meth c cc nL RX2 ret) (hG : mGl g s) (hI : mInj g) : se_Snd p l e (mRoom fr lo) s m args below meth c Q0 nL g.1 (mRM g H0) cc (.invokevirtual idx) 3 (ov_vIIIrJ P Q) := by
  refine (oC_ok hM h1 h2 h3 h4 h5 hd0 hR C hG hI).mono fun st M K X h => ?_
  unfold ov_vIIIrJ at h
  split at h
  · rename_i a2 a1 a0 r
    exact ⟨[.int a0, .int a1, .int a2], r, rfl, rfl, h.2.1, ⟨a0, a1, a2, rfl, h.1⟩, fun v M' hp => by
      obtain ⟨x, rfl, hq⟩ := hp a0 a1 a2 rfl
      exact h.2.2 x M' hq⟩
  · exact h.elim
theorem of_vIIIrJ_ok {y : MethodName} {cc' : ByteArray} {maxL' fr' lo' : Nat} {P : Int32 → Int32 → Int32 → mM → Prop} {R : Int32 → Int32 → Int32 → mM → Int64} {F : Int32 → Int32 → Int32 → mM → mM} (hM : mc_vIIIrJ l y cc' maxL' fr' lo' P (fun a0 a1 a2 M x M' => x = R a0 a1 a2 M ∧ M' = F a0 a1 a2 M)) (h1 : Cond.methodLink RX2 idx y ∈ lw_all) (h2 : Cond.instanceMethod y ∈ lw_all) (h3 : Cond.selects RX2 y y ∈ lw_all) (h4 : Cond.initialized RX2 ∈ lw_all) (h5 : Cond.code y cc' maxL' (some .long) ∈ lw_all) (hd0 : y.cls = RX2 ∧ y.cls ≠ "java/lang/invoke/MethodHandle" ∧ y.cls ≠ "java/lang/invoke/VarHandle" ∧ (parseMethodDescriptor y.desc).map (fun d => d.parameters.length) = some 3) (hR : fr' + 1 ≤ fr ∧ 8 + (maxL' + 11) + lo' ≤ lo) (C : se_Cx p s m args meth c cc nL RX2 ret) (hG : mGl g s) (hI : mInj g) : se_Snd p l e (mRoom fr lo) s m args below meth c Q0 nL g.1 (mRM g H0) cc (.invokevirtual idx) 3 (of_vIIIrJ P R F) := by
  refine (ov_vIIIrJ_ok hM h1 h2 h3 h4 h5 hd0 hR C hG hI).mono fun st M K X h => ?_
  unfold of_vIIIrJ at h
  split at h
  · exact ⟨h.1, h.2.1, fun x M' hq => by
      obtain ⟨rfl, rfl⟩ := hq
      exact h.2.2⟩
  · exact h.elim
end
def rt_vIIIrJ (Q : Int32 → Int32 → Int32 → mM → Int64 → mM → Prop) (a0 : Int32) (a1 : Int32) (a2 : Int32) (M : mM) : Option Value → mM → Prop := fun v M' => se_nr (some .long) v ∧ (fun (av : List Value) (M : mM) (v : Option Value) (M' : mM) => ∀ (a0 : Int32) (a1 : Int32) (a2 : Int32), av = [.ref 0, .int a0, .int a1, .int a2] → ∃ x, v = some (.long x) ∧ Q a0 a1 a2 M x M') [.ref 0, .int a0, .int a1, .int a2] M v M'
theorem rt_vIIIrJ_e {Q : Int32 → Int32 → Int32 → mM → Int64 → mM → Prop} {a0 : Int32} {a1 : Int32} {a2 : Int32} {M M' : mM} {z : Int64} : rt_vIIIrJ Q a0 a1 a2 M (some (.long z)) M' = (Q a0 a1 a2 M z M') := by
  apply propext
  constructor
  · intro h
    obtain ⟨x, e, hq⟩ := h.2 a0 a1 a2 rfl
    cases e
    exact hq
  · intro h
    exact ⟨rfl, fun _ _ _ e => by
      cases e
      exact ⟨z, rfl, h⟩⟩
theorem mc_vIIIrJ_of {l : Launch} {y : MethodName} {cc : ByteArray} {maxL fr lo : Nat} {P : Int32 → Int32 → Int32 → mM → Prop} {Q : Int32 → Int32 → Int32 → mM → Int64 → mM → Prop} {T : Nat → Nat → se_Op mM} (hy : plainName y.cls = true) (hyc : y.cls = RX2) (hT : mTS l cc maxL (some .long) fr lo T) (hL : 4 ≤ maxL)
    (body : ∀ (a0 : Int32) (a1 : Int32) (a2 : Int32) (M : mM), P a0 a1 a2 M → ∀ G : Nat → se_L → List Value → mM → Prop, (∀ (stops : List Nat) (n pc : Nat) (L : se_L) (st : List Value) (M' : mM), wpN False T cc stops G (fun _ _ _ _ => False) (rt_vIIIrJ Q a0 a1 a2 M) n pc L st M' → G pc L st M') → G 0 (se_ent [.ref 0, .int a0, .int a1, .int a2] maxL) [] M) : mc_vIIIrJ l y cc maxL fr lo P Q :=
  mOf hy hyc hT (fun av M h => by
    obtain ⟨a0, a1, a2, rfl, _⟩ := h
    exact hL) (fun av M hp G hG => by
    obtain ⟨a0, a1, a2, rfl, hp⟩ := hp
    exact body a0 a1 a2 M hp G hG)
abbrev mc_vIIIrV (l : Launch) (y : MethodName) (cc : ByteArray) (maxL fr lo : Nat) (P : Int32 → Int32 → Int32 → mM → Prop) (Q : Int32 → Int32 → Int32 → mM → mM → Prop) : Prop := mCon l y cc maxL none fr lo (fun av M => ∃ (a0 : Int32) (a1 : Int32) (a2 : Int32), av = [.ref 0, .int a0, .int a1, .int a2] ∧ P a0 a1 a2 M) (fun av M v M' => ∀ (a0 : Int32) (a1 : Int32) (a2 : Int32), av = [.ref 0, .int a0, .int a1, .int a2] → v = none ∧ Q a0 a1 a2 M M')
def ov_vIIIrV (P : Int32 → Int32 → Int32 → mM → Prop) (Q : Int32 → Int32 → Int32 → mM → mM → Prop) : se_Op mM := fun st M K _ => match st with
  | .int a2 :: .int a1 :: .int a0 :: .ref 0 :: r => P a0 a1 a2 M ∧ se_c8 8 r ∧ ∀ M', Q a0 a1 a2 M M' → K r M'
  | _ => False
def of_vIIIrV (P : Int32 → Int32 → Int32 → mM → Prop) (F : Int32 → Int32 → Int32 → mM → mM) : se_Op mM := fun st M K _ => match st with
  | .int a2 :: .int a1 :: .int a0 :: .ref 0 :: r => P a0 a1 a2 M ∧ se_c8 8 r ∧ K r (F a0 a1 a2 M)
  | _ => False
theorem ov_vIIIrV_r {P : Int32 → Int32 → Int32 → mM → Prop} {Q : Int32 → Int32 → Int32 → mM → mM → Prop} {a0 : Int32} {a1 : Int32} {a2 : Int32} {r : List Value} {M : mM} {K : List Value → mM → Prop} {X : Nat → mM → Prop} : ov_vIIIrV P Q (.int a2 :: .int a1 :: .int a0 :: .ref 0 :: r) M K X = (P a0 a1 a2 M ∧ se_c8 8 r ∧ ∀ M', Q a0 a1 a2 M M' → K r M') := rfl
theorem of_vIIIrV_r {P : Int32 → Int32 → Int32 → mM → Prop} {F : Int32 → Int32 → Int32 → mM → mM} {a0 : Int32} {a1 : Int32} {a2 : Int32} {r : List Value} {M : mM} {K : List Value → mM → Prop} {X : Nat → mM → Prop} : of_vIIIrV P F (.int a2 :: .int a1 :: .int a0 :: .ref 0 :: r) M K X = (P a0 a1 a2 M ∧ se_c8 8 r ∧ K r (F a0 a1 a2 M)) := rfl
section
variable {p : Program} {l : Launch} {e : Env} {s : State} {m : MethodId} {args : Array Value} {below : List Frame} {meth : Method} {c : Code} {nL : Nat} {cc : ByteArray} {ret : Option FieldType} {Q0 : State → Prop} {g : mG} {H0 : Heap} {idx fr lo : Nat}
theorem ov_vIIIrV_ok {y : MethodName} {cc' : ByteArray} {maxL' fr' lo' : Nat} {P : Int32 → Int32 → Int32 → mM → Prop} {Q : Int32 → Int32 → Int32 → mM → mM → Prop} (hM : mc_vIIIrV l y cc' maxL' fr' lo' P Q) (h1 : Cond.methodLink RX2 idx y ∈ lw_all) (h2 : Cond.instanceMethod y ∈ lw_all) (h3 : Cond.selects RX2 y y ∈ lw_all) (h4 : Cond.initialized RX2 ∈ lw_all) (h5 : Cond.code y cc' maxL' none ∈ lw_all) (hd0 : y.cls = RX2 ∧ y.cls ≠ "java/lang/invoke/MethodHandle" ∧ y.cls ≠ "java/lang/invoke/VarHandle" ∧ (parseMethodDescriptor y.desc).map (fun d => d.parameters.length) = some 3) (hR : fr' + 1 ≤ fr ∧ 8 + (maxL' + 11) + lo' ≤ lo) (C : se_Cx p s m args meth c cc nL RX2 ret) (hG : mGl g s) (hI : mInj g) : se_Snd p l e (mRoom fr lo) s m args below meth c Q0 nL g.1 (mRM g H0) cc (.invokevirtual idx) 3 (ov_vIIIrV P Q) := by
  refine (oC_ok hM h1 h2 h3 h4 h5 hd0 hR C hG hI).mono fun st M K X h => ?_
  unfold ov_vIIIrV at h
  split at h
  · rename_i a2 a1 a0 r
    exact ⟨[.int a0, .int a1, .int a2], r, rfl, rfl, h.2.1, ⟨a0, a1, a2, rfl, h.1⟩, fun v M' hp => by
      obtain ⟨rfl, hq⟩ := hp a0 a1 a2 rfl
      exact h.2.2 M' hq⟩
  · exact h.elim
theorem of_vIIIrV_ok {y : MethodName} {cc' : ByteArray} {maxL' fr' lo' : Nat} {P : Int32 → Int32 → Int32 → mM → Prop} {F : Int32 → Int32 → Int32 → mM → mM} (hM : mc_vIIIrV l y cc' maxL' fr' lo' P (fun a0 a1 a2 M M' => M' = F a0 a1 a2 M)) (h1 : Cond.methodLink RX2 idx y ∈ lw_all) (h2 : Cond.instanceMethod y ∈ lw_all) (h3 : Cond.selects RX2 y y ∈ lw_all) (h4 : Cond.initialized RX2 ∈ lw_all) (h5 : Cond.code y cc' maxL' none ∈ lw_all) (hd0 : y.cls = RX2 ∧ y.cls ≠ "java/lang/invoke/MethodHandle" ∧ y.cls ≠ "java/lang/invoke/VarHandle" ∧ (parseMethodDescriptor y.desc).map (fun d => d.parameters.length) = some 3) (hR : fr' + 1 ≤ fr ∧ 8 + (maxL' + 11) + lo' ≤ lo) (C : se_Cx p s m args meth c cc nL RX2 ret) (hG : mGl g s) (hI : mInj g) : se_Snd p l e (mRoom fr lo) s m args below meth c Q0 nL g.1 (mRM g H0) cc (.invokevirtual idx) 3 (of_vIIIrV P F) := by
  refine (ov_vIIIrV_ok hM h1 h2 h3 h4 h5 hd0 hR C hG hI).mono fun st M K X h => ?_
  unfold of_vIIIrV at h
  split at h
  · exact ⟨h.1, h.2.1, fun M' hq => by
      subst hq
      exact h.2.2⟩
  · exact h.elim
end
def rt_vIIIrV (Q : Int32 → Int32 → Int32 → mM → mM → Prop) (a0 : Int32) (a1 : Int32) (a2 : Int32) (M : mM) : Option Value → mM → Prop := fun v M' => se_nr none v ∧ (fun (av : List Value) (M : mM) (v : Option Value) (M' : mM) => ∀ (a0 : Int32) (a1 : Int32) (a2 : Int32), av = [.ref 0, .int a0, .int a1, .int a2] → v = none ∧ Q a0 a1 a2 M M') [.ref 0, .int a0, .int a1, .int a2] M v M'
theorem rt_vIIIrV_e {Q : Int32 → Int32 → Int32 → mM → mM → Prop} {a0 : Int32} {a1 : Int32} {a2 : Int32} {M M' : mM}  : rt_vIIIrV Q a0 a1 a2 M none M' = (Q a0 a1 a2 M M') := by
  apply propext
  constructor
  · intro h
    exact (h.2 a0 a1 a2 rfl).2
  · intro h
    exact ⟨rfl, fun _ _ _ e => by
      cases e
      exact ⟨rfl, h⟩⟩
theorem mc_vIIIrV_of {l : Launch} {y : MethodName} {cc : ByteArray} {maxL fr lo : Nat} {P : Int32 → Int32 → Int32 → mM → Prop} {Q : Int32 → Int32 → Int32 → mM → mM → Prop} {T : Nat → Nat → se_Op mM} (hy : plainName y.cls = true) (hyc : y.cls = RX2) (hT : mTS l cc maxL none fr lo T) (hL : 4 ≤ maxL)
    (body : ∀ (a0 : Int32) (a1 : Int32) (a2 : Int32) (M : mM), P a0 a1 a2 M → ∀ G : Nat → se_L → List Value → mM → Prop, (∀ (stops : List Nat) (n pc : Nat) (L : se_L) (st : List Value) (M' : mM), wpN False T cc stops G (fun _ _ _ _ => False) (rt_vIIIrV Q a0 a1 a2 M) n pc L st M' → G pc L st M') → G 0 (se_ent [.ref 0, .int a0, .int a1, .int a2] maxL) [] M) : mc_vIIIrV l y cc maxL fr lo P Q :=
  mOf hy hyc hT (fun av M h => by
    obtain ⟨a0, a1, a2, rfl, _⟩ := h
    exact hL) (fun av M hp G hG => by
    obtain ⟨a0, a1, a2, rfl, hp⟩ := hp
    exact body a0 a1 a2 M hp G hG)
abbrev mc_vIIIrZ (l : Launch) (y : MethodName) (cc : ByteArray) (maxL fr lo : Nat) (P : Int32 → Int32 → Int32 → mM → Prop) (Q : Int32 → Int32 → Int32 → mM → Bool → mM → Prop) : Prop := mCon l y cc maxL (some .boolean) fr lo (fun av M => ∃ (a0 : Int32) (a1 : Int32) (a2 : Int32), av = [.ref 0, .int a0, .int a1, .int a2] ∧ P a0 a1 a2 M) (fun av M v M' => ∀ (a0 : Int32) (a1 : Int32) (a2 : Int32), av = [.ref 0, .int a0, .int a1, .int a2] → ∃ x, v = some (.int (bI x)) ∧ Q a0 a1 a2 M x M')
def ov_vIIIrZ (P : Int32 → Int32 → Int32 → mM → Prop) (Q : Int32 → Int32 → Int32 → mM → Bool → mM → Prop) : se_Op mM := fun st M K _ => match st with
  | .int a2 :: .int a1 :: .int a0 :: .ref 0 :: r => P a0 a1 a2 M ∧ se_c8 8 r ∧ ∀ x M', Q a0 a1 a2 M x M' → K (.int (bI x) :: r) M'
  | _ => False
def of_vIIIrZ (P : Int32 → Int32 → Int32 → mM → Prop) (R : Int32 → Int32 → Int32 → mM → Bool) (F : Int32 → Int32 → Int32 → mM → mM) : se_Op mM := fun st M K _ => match st with
  | .int a2 :: .int a1 :: .int a0 :: .ref 0 :: r => P a0 a1 a2 M ∧ se_c8 8 r ∧ K (.int (bI (R a0 a1 a2 M)) :: r) (F a0 a1 a2 M)
  | _ => False
theorem ov_vIIIrZ_r {P : Int32 → Int32 → Int32 → mM → Prop} {Q : Int32 → Int32 → Int32 → mM → Bool → mM → Prop} {a0 : Int32} {a1 : Int32} {a2 : Int32} {r : List Value} {M : mM} {K : List Value → mM → Prop} {X : Nat → mM → Prop} : ov_vIIIrZ P Q (.int a2 :: .int a1 :: .int a0 :: .ref 0 :: r) M K X = (P a0 a1 a2 M ∧ se_c8 8 r ∧ ∀ x M', Q a0 a1 a2 M x M' → K (.int (bI x) :: r) M') := rfl
theorem of_vIIIrZ_r {P : Int32 → Int32 → Int32 → mM → Prop} {R : Int32 → Int32 → Int32 → mM → Bool} {F : Int32 → Int32 → Int32 → mM → mM} {a0 : Int32} {a1 : Int32} {a2 : Int32} {r : List Value} {M : mM} {K : List Value → mM → Prop} {X : Nat → mM → Prop} : of_vIIIrZ P R F (.int a2 :: .int a1 :: .int a0 :: .ref 0 :: r) M K X = (P a0 a1 a2 M ∧ se_c8 8 r ∧ K (.int (bI (R a0 a1 a2 M)) :: r) (F a0 a1 a2 M)) := rfl
section
variable {p : Program} {l : Launch} {e : Env} {s : State} {m : MethodId} {args : Array Value} {below : List Frame} {meth : Method} {c : Code} {nL : Nat} {cc : ByteArray} {ret : Option FieldType} {Q0 : State → Prop} {g : mG} {H0 : Heap} {idx fr lo : Nat}
theorem ov_vIIIrZ_ok {y : MethodName} {cc' : ByteArray} {maxL' fr' lo' : Nat} {P : Int32 → Int32 → Int32 → mM → Prop} {Q : Int32 → Int32 → Int32 → mM → Bool → mM → Prop} (hM : mc_vIIIrZ l y cc' maxL' fr' lo' P Q) (h1 : Cond.methodLink RX2 idx y ∈ lw_all) (h2 : Cond.instanceMethod y ∈ lw_all) (h3 : Cond.selects RX2 y y ∈ lw_all) (h4 : Cond.initialized RX2 ∈ lw_all) (h5 : Cond.code y cc' maxL' (some .boolean) ∈ lw_all) (hd0 : y.cls = RX2 ∧ y.cls ≠ "java/lang/invoke/MethodHandle" ∧ y.cls ≠ "java/lang/invoke/VarHandle" ∧ (parseMethodDescriptor y.desc).map (fun d => d.parameters.length) = some 3) (hR : fr' + 1 ≤ fr ∧ 8 + (maxL' + 11) + lo' ≤ lo) (C : se_Cx p s m args meth c cc nL RX2 ret) (hG : mGl g s) (hI : mInj g) : se_Snd p l e (mRoom fr lo) s m args below meth c Q0 nL g.1 (mRM g H0) cc (.invokevirtual idx) 3 (ov_vIIIrZ P Q) := by
  refine (oC_ok hM h1 h2 h3 h4 h5 hd0 hR C hG hI).mono fun st M K X h => ?_
  unfold ov_vIIIrZ at h
  split at h
  · rename_i a2 a1 a0 r
    exact ⟨[.int a0, .int a1, .int a2], r, rfl, rfl, h.2.1, ⟨a0, a1, a2, rfl, h.1⟩, fun v M' hp => by
      obtain ⟨x, rfl, hq⟩ := hp a0 a1 a2 rfl
      exact h.2.2 x M' hq⟩
  · exact h.elim
theorem of_vIIIrZ_ok {y : MethodName} {cc' : ByteArray} {maxL' fr' lo' : Nat} {P : Int32 → Int32 → Int32 → mM → Prop} {R : Int32 → Int32 → Int32 → mM → Bool} {F : Int32 → Int32 → Int32 → mM → mM} (hM : mc_vIIIrZ l y cc' maxL' fr' lo' P (fun a0 a1 a2 M x M' => x = R a0 a1 a2 M ∧ M' = F a0 a1 a2 M)) (h1 : Cond.methodLink RX2 idx y ∈ lw_all) (h2 : Cond.instanceMethod y ∈ lw_all) (h3 : Cond.selects RX2 y y ∈ lw_all) (h4 : Cond.initialized RX2 ∈ lw_all) (h5 : Cond.code y cc' maxL' (some .boolean) ∈ lw_all) (hd0 : y.cls = RX2 ∧ y.cls ≠ "java/lang/invoke/MethodHandle" ∧ y.cls ≠ "java/lang/invoke/VarHandle" ∧ (parseMethodDescriptor y.desc).map (fun d => d.parameters.length) = some 3) (hR : fr' + 1 ≤ fr ∧ 8 + (maxL' + 11) + lo' ≤ lo) (C : se_Cx p s m args meth c cc nL RX2 ret) (hG : mGl g s) (hI : mInj g) : se_Snd p l e (mRoom fr lo) s m args below meth c Q0 nL g.1 (mRM g H0) cc (.invokevirtual idx) 3 (of_vIIIrZ P R F) := by
  refine (ov_vIIIrZ_ok hM h1 h2 h3 h4 h5 hd0 hR C hG hI).mono fun st M K X h => ?_
  unfold of_vIIIrZ at h
  split at h
  · exact ⟨h.1, h.2.1, fun x M' hq => by
      obtain ⟨rfl, rfl⟩ := hq
      exact h.2.2⟩
  · exact h.elim
end
def rt_vIIIrZ (Q : Int32 → Int32 → Int32 → mM → Bool → mM → Prop) (a0 : Int32) (a1 : Int32) (a2 : Int32) (M : mM) : Option Value → mM → Prop := fun v M' => se_nr (some .boolean) v ∧ (fun (av : List Value) (M : mM) (v : Option Value) (M' : mM) => ∀ (a0 : Int32) (a1 : Int32) (a2 : Int32), av = [.ref 0, .int a0, .int a1, .int a2] → ∃ x, v = some (.int (bI x)) ∧ Q a0 a1 a2 M x M') [.ref 0, .int a0, .int a1, .int a2] M v M'
theorem rt_vIIIrZ_e {Q : Int32 → Int32 → Int32 → mM → Bool → mM → Prop} {a0 : Int32} {a1 : Int32} {a2 : Int32} {M M' : mM} {z : Int32} : rt_vIIIrZ Q a0 a1 a2 M (some (.int z)) M' = (rz z fun x => Q a0 a1 a2 M x M') := by
  apply propext
  constructor
  · intro h
    obtain ⟨x, e, hq⟩ := h.2 a0 a1 a2 rfl
    cases e
    exact ⟨x, rfl, hq⟩
  · intro h
    obtain ⟨x, rfl, hq⟩ := h
    exact ⟨⟨_, rfl, bI_nar x⟩, fun _ _ _ e => by
      cases e
      exact ⟨x, rfl, hq⟩⟩
theorem mc_vIIIrZ_of {l : Launch} {y : MethodName} {cc : ByteArray} {maxL fr lo : Nat} {P : Int32 → Int32 → Int32 → mM → Prop} {Q : Int32 → Int32 → Int32 → mM → Bool → mM → Prop} {T : Nat → Nat → se_Op mM} (hy : plainName y.cls = true) (hyc : y.cls = RX2) (hT : mTS l cc maxL (some .boolean) fr lo T) (hL : 4 ≤ maxL)
    (body : ∀ (a0 : Int32) (a1 : Int32) (a2 : Int32) (M : mM), P a0 a1 a2 M → ∀ G : Nat → se_L → List Value → mM → Prop, (∀ (stops : List Nat) (n pc : Nat) (L : se_L) (st : List Value) (M' : mM), wpN False T cc stops G (fun _ _ _ _ => False) (rt_vIIIrZ Q a0 a1 a2 M) n pc L st M' → G pc L st M') → G 0 (se_ent [.ref 0, .int a0, .int a1, .int a2] maxL) [] M) : mc_vIIIrZ l y cc maxL fr lo P Q :=
  mOf hy hyc hT (fun av M h => by
    obtain ⟨a0, a1, a2, rfl, _⟩ := h
    exact hL) (fun av M hp G hG => by
    obtain ⟨a0, a1, a2, rfl, hp⟩ := hp
    exact body a0 a1 a2 M hp G hG)
abbrev mc_vIIIIrI (l : Launch) (y : MethodName) (cc : ByteArray) (maxL fr lo : Nat) (P : Int32 → Int32 → Int32 → Int32 → mM → Prop) (Q : Int32 → Int32 → Int32 → Int32 → mM → Int32 → mM → Prop) : Prop := mCon l y cc maxL (some .int) fr lo (fun av M => ∃ (a0 : Int32) (a1 : Int32) (a2 : Int32) (a3 : Int32), av = [.ref 0, .int a0, .int a1, .int a2, .int a3] ∧ P a0 a1 a2 a3 M) (fun av M v M' => ∀ (a0 : Int32) (a1 : Int32) (a2 : Int32) (a3 : Int32), av = [.ref 0, .int a0, .int a1, .int a2, .int a3] → ∃ x, v = some (.int x) ∧ Q a0 a1 a2 a3 M x M')
def ov_vIIIIrI (P : Int32 → Int32 → Int32 → Int32 → mM → Prop) (Q : Int32 → Int32 → Int32 → Int32 → mM → Int32 → mM → Prop) : se_Op mM := fun st M K _ => match st with
  | .int a3 :: .int a2 :: .int a1 :: .int a0 :: .ref 0 :: r => P a0 a1 a2 a3 M ∧ se_c8 8 r ∧ ∀ x M', Q a0 a1 a2 a3 M x M' → K (.int x :: r) M'
  | _ => False
def of_vIIIIrI (P : Int32 → Int32 → Int32 → Int32 → mM → Prop) (R : Int32 → Int32 → Int32 → Int32 → mM → Int32) (F : Int32 → Int32 → Int32 → Int32 → mM → mM) : se_Op mM := fun st M K _ => match st with
  | .int a3 :: .int a2 :: .int a1 :: .int a0 :: .ref 0 :: r => P a0 a1 a2 a3 M ∧ se_c8 8 r ∧ K (.int (R a0 a1 a2 a3 M) :: r) (F a0 a1 a2 a3 M)
  | _ => False
theorem ov_vIIIIrI_r {P : Int32 → Int32 → Int32 → Int32 → mM → Prop} {Q : Int32 → Int32 → Int32 → Int32 → mM → Int32 → mM → Prop} {a0 : Int32} {a1 : Int32} {a2 : Int32} {a3 : Int32} {r : List Value} {M : mM} {K : List Value → mM → Prop} {X : Nat → mM → Prop} : ov_vIIIIrI P Q (.int a3 :: .int a2 :: .int a1 :: .int a0 :: .ref 0 :: r) M K X = (P a0 a1 a2 a3 M ∧ se_c8 8 r ∧ ∀ x M', Q a0 a1 a2 a3 M x M' → K (.int x :: r) M') := rfl
theorem of_vIIIIrI_r {P : Int32 → Int32 → Int32 → Int32 → mM → Prop} {R : Int32 → Int32 → Int32 → Int32 → mM → Int32} {F : Int32 → Int32 → Int32 → Int32 → mM → mM} {a0 : Int32} {a1 : Int32} {a2 : Int32} {a3 : Int32} {r : List Value} {M : mM} {K : List Value → mM → Prop} {X : Nat → mM → Prop} : of_vIIIIrI P R F (.int a3 :: .int a2 :: .int a1 :: .int a0 :: .ref 0 :: r) M K X = (P a0 a1 a2 a3 M ∧ se_c8 8 r ∧ K (.int (R a0 a1 a2 a3 M) :: r) (F a0 a1 a2 a3 M)) := rfl
section
variable {p : Program} {l : Launch} {e : Env} {s : State} {m : MethodId} {args : Array Value} {below : List Frame} {meth : Method} {c : Code} {nL : Nat} {cc : ByteArray} {ret : Option FieldType} {Q0 : State → Prop} {g : mG} {H0 : Heap} {idx fr lo : Nat}
theorem ov_vIIIIrI_ok {y : MethodName} {cc' : ByteArray} {maxL' fr' lo' : Nat} {P : Int32 → Int32 → Int32 → Int32 → mM → Prop} {Q : Int32 → Int32 → Int32 → Int32 → mM → Int32 → mM → Prop} (hM : mc_vIIIIrI l y cc' maxL' fr' lo' P Q) (h1 : Cond.methodLink RX2 idx y ∈ lw_all) (h2 : Cond.instanceMethod y ∈ lw_all) (h3 : Cond.selects RX2 y y ∈ lw_all) (h4 : Cond.initialized RX2 ∈ lw_all) (h5 : Cond.code y cc' maxL' (some .int) ∈ lw_all) (hd0 : y.cls = RX2 ∧ y.cls ≠ "java/lang/invoke/MethodHandle" ∧ y.cls ≠ "java/lang/invoke/VarHandle" ∧ (parseMethodDescriptor y.desc).map (fun d => d.parameters.length) = some 4) (hR : fr' + 1 ≤ fr ∧ 8 + (maxL' + 11) + lo' ≤ lo) (C : se_Cx p s m args meth c cc nL RX2 ret) (hG : mGl g s) (hI : mInj g) : se_Snd p l e (mRoom fr lo) s m args below meth c Q0 nL g.1 (mRM g H0) cc (.invokevirtual idx) 3 (ov_vIIIIrI P Q) := by
  refine (oC_ok hM h1 h2 h3 h4 h5 hd0 hR C hG hI).mono fun st M K X h => ?_
  unfold ov_vIIIIrI at h
  split at h
  · rename_i a3 a2 a1 a0 r
    exact ⟨[.int a0, .int a1, .int a2, .int a3], r, rfl, rfl, h.2.1, ⟨a0, a1, a2, a3, rfl, h.1⟩, fun v M' hp => by
      obtain ⟨x, rfl, hq⟩ := hp a0 a1 a2 a3 rfl
      exact h.2.2 x M' hq⟩
  · exact h.elim
theorem of_vIIIIrI_ok {y : MethodName} {cc' : ByteArray} {maxL' fr' lo' : Nat} {P : Int32 → Int32 → Int32 → Int32 → mM → Prop} {R : Int32 → Int32 → Int32 → Int32 → mM → Int32} {F : Int32 → Int32 → Int32 → Int32 → mM → mM} (hM : mc_vIIIIrI l y cc' maxL' fr' lo' P (fun a0 a1 a2 a3 M x M' => x = R a0 a1 a2 a3 M ∧ M' = F a0 a1 a2 a3 M)) (h1 : Cond.methodLink RX2 idx y ∈ lw_all) (h2 : Cond.instanceMethod y ∈ lw_all) (h3 : Cond.selects RX2 y y ∈ lw_all) (h4 : Cond.initialized RX2 ∈ lw_all) (h5 : Cond.code y cc' maxL' (some .int) ∈ lw_all) (hd0 : y.cls = RX2 ∧ y.cls ≠ "java/lang/invoke/MethodHandle" ∧ y.cls ≠ "java/lang/invoke/VarHandle" ∧ (parseMethodDescriptor y.desc).map (fun d => d.parameters.length) = some 4) (hR : fr' + 1 ≤ fr ∧ 8 + (maxL' + 11) + lo' ≤ lo) (C : se_Cx p s m args meth c cc nL RX2 ret) (hG : mGl g s) (hI : mInj g) : se_Snd p l e (mRoom fr lo) s m args below meth c Q0 nL g.1 (mRM g H0) cc (.invokevirtual idx) 3 (of_vIIIIrI P R F) := by
  refine (ov_vIIIIrI_ok hM h1 h2 h3 h4 h5 hd0 hR C hG hI).mono fun st M K X h => ?_
  unfold of_vIIIIrI at h
  split at h
  · exact ⟨h.1, h.2.1, fun x M' hq => by
      obtain ⟨rfl, rfl⟩ := hq
      exact h.2.2⟩
  · exact h.elim
end
def rt_vIIIIrI (Q : Int32 → Int32 → Int32 → Int32 → mM → Int32 → mM → Prop) (a0 : Int32) (a1 : Int32) (a2 : Int32) (a3 : Int32) (M : mM) : Option Value → mM → Prop := fun v M' => se_nr (some .int) v ∧ (fun (av : List Value) (M : mM) (v : Option Value) (M' : mM) => ∀ (a0 : Int32) (a1 : Int32) (a2 : Int32) (a3 : Int32), av = [.ref 0, .int a0, .int a1, .int a2, .int a3] → ∃ x, v = some (.int x) ∧ Q a0 a1 a2 a3 M x M') [.ref 0, .int a0, .int a1, .int a2, .int a3] M v M'
theorem rt_vIIIIrI_e {Q : Int32 → Int32 → Int32 → Int32 → mM → Int32 → mM → Prop} {a0 : Int32} {a1 : Int32} {a2 : Int32} {a3 : Int32} {M M' : mM} {z : Int32} : rt_vIIIIrI Q a0 a1 a2 a3 M (some (.int z)) M' = (Q a0 a1 a2 a3 M z M') := by
  apply propext
  constructor
  · intro h
    obtain ⟨x, e, hq⟩ := h.2 a0 a1 a2 a3 rfl
    cases e
    exact hq
  · intro h
    exact ⟨⟨_, rfl, rfl⟩, fun _ _ _ _ e => by
      cases e
      exact ⟨z, rfl, h⟩⟩
theorem mc_vIIIIrI_of {l : Launch} {y : MethodName} {cc : ByteArray} {maxL fr lo : Nat} {P : Int32 → Int32 → Int32 → Int32 → mM → Prop} {Q : Int32 → Int32 → Int32 → Int32 → mM → Int32 → mM → Prop} {T : Nat → Nat → se_Op mM} (hy : plainName y.cls = true) (hyc : y.cls = RX2) (hT : mTS l cc maxL (some .int) fr lo T) (hL : 5 ≤ maxL)
    (body : ∀ (a0 : Int32) (a1 : Int32) (a2 : Int32) (a3 : Int32) (M : mM), P a0 a1 a2 a3 M → ∀ G : Nat → se_L → List Value → mM → Prop, (∀ (stops : List Nat) (n pc : Nat) (L : se_L) (st : List Value) (M' : mM), wpN False T cc stops G (fun _ _ _ _ => False) (rt_vIIIIrI Q a0 a1 a2 a3 M) n pc L st M' → G pc L st M') → G 0 (se_ent [.ref 0, .int a0, .int a1, .int a2, .int a3] maxL) [] M) : mc_vIIIIrI l y cc maxL fr lo P Q :=
  mOf hy hyc hT (fun av M h => by
    obtain ⟨a0, a1, a2, a3, rfl, _⟩ := h
    exact hL) (fun av M hp G hG => by
    obtain ⟨a0, a1, a2, a3, rfl, hp⟩ := hp
    exact body a0 a1 a2 a3 M hp G hG)
abbrev mc_vIIIIrJ (l : Launch) (y : MethodName) (cc : ByteArray) (maxL fr lo : Nat) (P : Int32 → Int32 → Int32 → Int32 → mM → Prop) (Q : Int32 → Int32 → Int32 → Int32 → mM → Int64 → mM → Prop) : Prop := mCon l y cc maxL (some .long) fr lo (fun av M => ∃ (a0 : Int32) (a1 : Int32) (a2 : Int32) (a3 : Int32), av = [.ref 0, .int a0, .int a1, .int a2, .int a3] ∧ P a0 a1 a2 a3 M) (fun av M v M' => ∀ (a0 : Int32) (a1 : Int32) (a2 : Int32) (a3 : Int32), av = [.ref 0, .int a0, .int a1, .int a2, .int a3] → ∃ x, v = some (.long x) ∧ Q a0 a1 a2 a3 M x M')
def ov_vIIIIrJ (P : Int32 → Int32 → Int32 → Int32 → mM → Prop) (Q : Int32 → Int32 → Int32 → Int32 → mM → Int64 → mM → Prop) : se_Op mM := fun st M K _ => match st with
  | .int a3 :: .int a2 :: .int a1 :: .int a0 :: .ref 0 :: r => P a0 a1 a2 a3 M ∧ se_c8 8 r ∧ ∀ x M', Q a0 a1 a2 a3 M x M' → K (.long x :: r) M'
  | _ => False
def of_vIIIIrJ (P : Int32 → Int32 → Int32 → Int32 → mM → Prop) (R : Int32 → Int32 → Int32 → Int32 → mM → Int64) (F : Int32 → Int32 → Int32 → Int32 → mM → mM) : se_Op mM := fun st M K _ => match st with
  | .int a3 :: .int a2 :: .int a1 :: .int a0 :: .ref 0 :: r => P a0 a1 a2 a3 M ∧ se_c8 8 r ∧ K (.long (R a0 a1 a2 a3 M) :: r) (F a0 a1 a2 a3 M)
  | _ => False
theorem ov_vIIIIrJ_r {P : Int32 → Int32 → Int32 → Int32 → mM → Prop} {Q : Int32 → Int32 → Int32 → Int32 → mM → Int64 → mM → Prop} {a0 : Int32} {a1 : Int32} {a2 : Int32} {a3 : Int32} {r : List Value} {M : mM} {K : List Value → mM → Prop} {X : Nat → mM → Prop} : ov_vIIIIrJ P Q (.int a3 :: .int a2 :: .int a1 :: .int a0 :: .ref 0 :: r) M K X = (P a0 a1 a2 a3 M ∧ se_c8 8 r ∧ ∀ x M', Q a0 a1 a2 a3 M x M' → K (.long x :: r) M') := rfl
theorem of_vIIIIrJ_r {P : Int32 → Int32 → Int32 → Int32 → mM → Prop} {R : Int32 → Int32 → Int32 → Int32 → mM → Int64} {F : Int32 → Int32 → Int32 → Int32 → mM → mM} {a0 : Int32} {a1 : Int32} {a2 : Int32} {a3 : Int32} {r : List Value} {M : mM} {K : List Value → mM → Prop} {X : Nat → mM → Prop} : of_vIIIIrJ P R F (.int a3 :: .int a2 :: .int a1 :: .int a0 :: .ref 0 :: r) M K X = (P a0 a1 a2 a3 M ∧ se_c8 8 r ∧ K (.long (R a0 a1 a2 a3 M) :: r) (F a0 a1 a2 a3 M)) := rfl
section
variable {p : Program} {l : Launch} {e : Env} {s : State} {m : MethodId} {args : Array Value} {below : List Frame} {meth : Method} {c : Code} {nL : Nat} {cc : ByteArray} {ret : Option FieldType} {Q0 : State → Prop} {g : mG} {H0 : Heap} {idx fr lo : Nat}
theorem ov_vIIIIrJ_ok {y : MethodName} {cc' : ByteArray} {maxL' fr' lo' : Nat} {P : Int32 → Int32 → Int32 → Int32 → mM → Prop} {Q : Int32 → Int32 → Int32 → Int32 → mM → Int64 → mM → Prop} (hM : mc_vIIIIrJ l y cc' maxL' fr' lo' P Q) (h1 : Cond.methodLink RX2 idx y ∈ lw_all) (h2 : Cond.instanceMethod y ∈ lw_all) (h3 : Cond.selects RX2 y y ∈ lw_all) (h4 : Cond.initialized RX2 ∈ lw_all) (h5 : Cond.code y cc' maxL' (some .long) ∈ lw_all) (hd0 : y.cls = RX2 ∧ y.cls ≠ "java/lang/invoke/MethodHandle" ∧ y.cls ≠ "java/lang/invoke/VarHandle" ∧ (parseMethodDescriptor y.desc).map (fun d => d.parameters.length) = some 4) (hR : fr' + 1 ≤ fr ∧ 8 + (maxL' + 11) + lo' ≤ lo) (C : se_Cx p s m args meth c cc nL RX2 ret) (hG : mGl g s) (hI : mInj g) : se_Snd p l e (mRoom fr lo) s m args below meth c Q0 nL g.1 (mRM g H0) cc (.invokevirtual idx) 3 (ov_vIIIIrJ P Q) := by
  refine (oC_ok hM h1 h2 h3 h4 h5 hd0 hR C hG hI).mono fun st M K X h => ?_
  unfold ov_vIIIIrJ at h
  split at h
  · rename_i a3 a2 a1 a0 r
    exact ⟨[.int a0, .int a1, .int a2, .int a3], r, rfl, rfl, h.2.1, ⟨a0, a1, a2, a3, rfl, h.1⟩, fun v M' hp => by
      obtain ⟨x, rfl, hq⟩ := hp a0 a1 a2 a3 rfl
      exact h.2.2 x M' hq⟩
  · exact h.elim
theorem of_vIIIIrJ_ok {y : MethodName} {cc' : ByteArray} {maxL' fr' lo' : Nat} {P : Int32 → Int32 → Int32 → Int32 → mM → Prop} {R : Int32 → Int32 → Int32 → Int32 → mM → Int64} {F : Int32 → Int32 → Int32 → Int32 → mM → mM} (hM : mc_vIIIIrJ l y cc' maxL' fr' lo' P (fun a0 a1 a2 a3 M x M' => x = R a0 a1 a2 a3 M ∧ M' = F a0 a1 a2 a3 M)) (h1 : Cond.methodLink RX2 idx y ∈ lw_all) (h2 : Cond.instanceMethod y ∈ lw_all) (h3 : Cond.selects RX2 y y ∈ lw_all) (h4 : Cond.initialized RX2 ∈ lw_all) (h5 : Cond.code y cc' maxL' (some .long) ∈ lw_all) (hd0 : y.cls = RX2 ∧ y.cls ≠ "java/lang/invoke/MethodHandle" ∧ y.cls ≠ "java/lang/invoke/VarHandle" ∧ (parseMethodDescriptor y.desc).map (fun d => d.parameters.length) = some 4) (hR : fr' + 1 ≤ fr ∧ 8 + (maxL' + 11) + lo' ≤ lo) (C : se_Cx p s m args meth c cc nL RX2 ret) (hG : mGl g s) (hI : mInj g) : se_Snd p l e (mRoom fr lo) s m args below meth c Q0 nL g.1 (mRM g H0) cc (.invokevirtual idx) 3 (of_vIIIIrJ P R F) := by
  refine (ov_vIIIIrJ_ok hM h1 h2 h3 h4 h5 hd0 hR C hG hI).mono fun st M K X h => ?_
  unfold of_vIIIIrJ at h
  split at h
  · exact ⟨h.1, h.2.1, fun x M' hq => by
      obtain ⟨rfl, rfl⟩ := hq
      exact h.2.2⟩
  · exact h.elim
end
def rt_vIIIIrJ (Q : Int32 → Int32 → Int32 → Int32 → mM → Int64 → mM → Prop) (a0 : Int32) (a1 : Int32) (a2 : Int32) (a3 : Int32) (M : mM) : Option Value → mM → Prop := fun v M' => se_nr (some .long) v ∧ (fun (av : List Value) (M : mM) (v : Option Value) (M' : mM) => ∀ (a0 : Int32) (a1 : Int32) (a2 : Int32) (a3 : Int32), av = [.ref 0, .int a0, .int a1, .int a2, .int a3] → ∃ x, v = some (.long x) ∧ Q a0 a1 a2 a3 M x M') [.ref 0, .int a0, .int a1, .int a2, .int a3] M v M'
theorem rt_vIIIIrJ_e {Q : Int32 → Int32 → Int32 → Int32 → mM → Int64 → mM → Prop} {a0 : Int32} {a1 : Int32} {a2 : Int32} {a3 : Int32} {M M' : mM} {z : Int64} : rt_vIIIIrJ Q a0 a1 a2 a3 M (some (.long z)) M' = (Q a0 a1 a2 a3 M z M') := by
  apply propext
  constructor
  · intro h
    obtain ⟨x, e, hq⟩ := h.2 a0 a1 a2 a3 rfl
    cases e
    exact hq
  · intro h
    exact ⟨rfl, fun _ _ _ _ e => by
      cases e
      exact ⟨z, rfl, h⟩⟩
theorem mc_vIIIIrJ_of {l : Launch} {y : MethodName} {cc : ByteArray} {maxL fr lo : Nat} {P : Int32 → Int32 → Int32 → Int32 → mM → Prop} {Q : Int32 → Int32 → Int32 → Int32 → mM → Int64 → mM → Prop} {T : Nat → Nat → se_Op mM} (hy : plainName y.cls = true) (hyc : y.cls = RX2) (hT : mTS l cc maxL (some .long) fr lo T) (hL : 5 ≤ maxL)
    (body : ∀ (a0 : Int32) (a1 : Int32) (a2 : Int32) (a3 : Int32) (M : mM), P a0 a1 a2 a3 M → ∀ G : Nat → se_L → List Value → mM → Prop, (∀ (stops : List Nat) (n pc : Nat) (L : se_L) (st : List Value) (M' : mM), wpN False T cc stops G (fun _ _ _ _ => False) (rt_vIIIIrJ Q a0 a1 a2 a3 M) n pc L st M' → G pc L st M') → G 0 (se_ent [.ref 0, .int a0, .int a1, .int a2, .int a3] maxL) [] M) : mc_vIIIIrJ l y cc maxL fr lo P Q :=
  mOf hy hyc hT (fun av M h => by
    obtain ⟨a0, a1, a2, a3, rfl, _⟩ := h
    exact hL) (fun av M hp G hG => by
    obtain ⟨a0, a1, a2, a3, rfl, hp⟩ := hp
    exact body a0 a1 a2 a3 M hp G hG)
abbrev mc_vIIIIrZ (l : Launch) (y : MethodName) (cc : ByteArray) (maxL fr lo : Nat) (P : Int32 → Int32 → Int32 → Int32 → mM → Prop) (Q : Int32 → Int32 → Int32 → Int32 → mM → Bool → mM → Prop) : Prop := mCon l y cc maxL (some .boolean) fr lo (fun av M => ∃ (a0 : Int32) (a1 : Int32) (a2 : Int32) (a3 : Int32), av = [.ref 0, .int a0, .int a1, .int a2, .int a3] ∧ P a0 a1 a2 a3 M) (fun av M v M' => ∀ (a0 : Int32) (a1 : Int32) (a2 : Int32) (a3 : Int32), av = [.ref 0, .int a0, .int a1, .int a2, .int a3] → ∃ x, v = some (.int (bI x)) ∧ Q a0 a1 a2 a3 M x M')
def ov_vIIIIrZ (P : Int32 → Int32 → Int32 → Int32 → mM → Prop) (Q : Int32 → Int32 → Int32 → Int32 → mM → Bool → mM → Prop) : se_Op mM := fun st M K _ => match st with
  | .int a3 :: .int a2 :: .int a1 :: .int a0 :: .ref 0 :: r => P a0 a1 a2 a3 M ∧ se_c8 8 r ∧ ∀ x M', Q a0 a1 a2 a3 M x M' → K (.int (bI x) :: r) M'
  | _ => False
def of_vIIIIrZ (P : Int32 → Int32 → Int32 → Int32 → mM → Prop) (R : Int32 → Int32 → Int32 → Int32 → mM → Bool) (F : Int32 → Int32 → Int32 → Int32 → mM → mM) : se_Op mM := fun st M K _ => match st with
  | .int a3 :: .int a2 :: .int a1 :: .int a0 :: .ref 0 :: r => P a0 a1 a2 a3 M ∧ se_c8 8 r ∧ K (.int (bI (R a0 a1 a2 a3 M)) :: r) (F a0 a1 a2 a3 M)
  | _ => False
theorem ov_vIIIIrZ_r {P : Int32 → Int32 → Int32 → Int32 → mM → Prop} {Q : Int32 → Int32 → Int32 → Int32 → mM → Bool → mM → Prop} {a0 : Int32} {a1 : Int32} {a2 : Int32} {a3 : Int32} {r : List Value} {M : mM} {K : List Value → mM → Prop} {X : Nat → mM → Prop} : ov_vIIIIrZ P Q (.int a3 :: .int a2 :: .int a1 :: .int a0 :: .ref 0 :: r) M K X = (P a0 a1 a2 a3 M ∧ se_c8 8 r ∧ ∀ x M', Q a0 a1 a2 a3 M x M' → K (.int (bI x) :: r) M') := rfl
theorem of_vIIIIrZ_r {P : Int32 → Int32 → Int32 → Int32 → mM → Prop} {R : Int32 → Int32 → Int32 → Int32 → mM → Bool} {F : Int32 → Int32 → Int32 → Int32 → mM → mM} {a0 : Int32} {a1 : Int32} {a2 : Int32} {a3 : Int32} {r : List Value} {M : mM} {K : List Value → mM → Prop} {X : Nat → mM → Prop} : of_vIIIIrZ P R F (.int a3 :: .int a2 :: .int a1 :: .int a0 :: .ref 0 :: r) M K X = (P a0 a1 a2 a3 M ∧ se_c8 8 r ∧ K (.int (bI (R a0 a1 a2 a3 M)) :: r) (F a0 a1 a2 a3 M)) := rfl
section
variable {p : Program} {l : Launch} {e : Env} {s : State} {m : MethodId} {args : Array Value} {below : List Frame} {meth : Method} {c : Code} {nL : Nat} {cc : ByteArray} {ret : Option FieldType} {Q0 : State → Prop} {g : mG} {H0 : Heap} {idx fr lo : Nat}
theorem ov_vIIIIrZ_ok {y : MethodName} {cc' : ByteArray} {maxL' fr' lo' : Nat} {P : Int32 → Int32 → Int32 → Int32 → mM → Prop} {Q : Int32 → Int32 → Int32 → Int32 → mM → Bool → mM → Prop} (hM : mc_vIIIIrZ l y cc' maxL' fr' lo' P Q) (h1 : Cond.methodLink RX2 idx y ∈ lw_all) (h2 : Cond.instanceMethod y ∈ lw_all) (h3 : Cond.selects RX2 y y ∈ lw_all) (h4 : Cond.initialized RX2 ∈ lw_all) (h5 : Cond.code y cc' maxL' (some .boolean) ∈ lw_all) (hd0 : y.cls = RX2 ∧ y.cls ≠ "java/lang/invoke/MethodHandle" ∧ y.cls ≠ "java/lang/invoke/VarHandle" ∧ (parseMethodDescriptor y.desc).map (fun d => d.parameters.length) = some 4) (hR : fr' + 1 ≤ fr ∧ 8 + (maxL' + 11) + lo' ≤ lo) (C : se_Cx p s m args meth c cc nL RX2 ret) (hG : mGl g s) (hI : mInj g) : se_Snd p l e (mRoom fr lo) s m args below meth c Q0 nL g.1 (mRM g H0) cc (.invokevirtual idx) 3 (ov_vIIIIrZ P Q) := by
  refine (oC_ok hM h1 h2 h3 h4 h5 hd0 hR C hG hI).mono fun st M K X h => ?_
  unfold ov_vIIIIrZ at h
  split at h
  · rename_i a3 a2 a1 a0 r
    exact ⟨[.int a0, .int a1, .int a2, .int a3], r, rfl, rfl, h.2.1, ⟨a0, a1, a2, a3, rfl, h.1⟩, fun v M' hp => by
      obtain ⟨x, rfl, hq⟩ := hp a0 a1 a2 a3 rfl
      exact h.2.2 x M' hq⟩
  · exact h.elim
theorem of_vIIIIrZ_ok {y : MethodName} {cc' : ByteArray} {maxL' fr' lo' : Nat} {P : Int32 → Int32 → Int32 → Int32 → mM → Prop} {R : Int32 → Int32 → Int32 → Int32 → mM → Bool} {F : Int32 → Int32 → Int32 → Int32 → mM → mM} (hM : mc_vIIIIrZ l y cc' maxL' fr' lo' P (fun a0 a1 a2 a3 M x M' => x = R a0 a1 a2 a3 M ∧ M' = F a0 a1 a2 a3 M)) (h1 : Cond.methodLink RX2 idx y ∈ lw_all) (h2 : Cond.instanceMethod y ∈ lw_all) (h3 : Cond.selects RX2 y y ∈ lw_all) (h4 : Cond.initialized RX2 ∈ lw_all) (h5 : Cond.code y cc' maxL' (some .boolean) ∈ lw_all) (hd0 : y.cls = RX2 ∧ y.cls ≠ "java/lang/invoke/MethodHandle" ∧ y.cls ≠ "java/lang/invoke/VarHandle" ∧ (parseMethodDescriptor y.desc).map (fun d => d.parameters.length) = some 4) (hR : fr' + 1 ≤ fr ∧ 8 + (maxL' + 11) + lo' ≤ lo) (C : se_Cx p s m args meth c cc nL RX2 ret) (hG : mGl g s) (hI : mInj g) : se_Snd p l e (mRoom fr lo) s m args below meth c Q0 nL g.1 (mRM g H0) cc (.invokevirtual idx) 3 (of_vIIIIrZ P R F) := by
  refine (ov_vIIIIrZ_ok hM h1 h2 h3 h4 h5 hd0 hR C hG hI).mono fun st M K X h => ?_
  unfold of_vIIIIrZ at h
  split at h
  · exact ⟨h.1, h.2.1, fun x M' hq => by
      obtain ⟨rfl, rfl⟩ := hq
      exact h.2.2⟩
  · exact h.elim
end
def rt_vIIIIrZ (Q : Int32 → Int32 → Int32 → Int32 → mM → Bool → mM → Prop) (a0 : Int32) (a1 : Int32) (a2 : Int32) (a3 : Int32) (M : mM) : Option Value → mM → Prop := fun v M' => se_nr (some .boolean) v ∧ (fun (av : List Value) (M : mM) (v : Option Value) (M' : mM) => ∀ (a0 : Int32) (a1 : Int32) (a2 : Int32) (a3 : Int32), av = [.ref 0, .int a0, .int a1, .int a2, .int a3] → ∃ x, v = some (.int (bI x)) ∧ Q a0 a1 a2 a3 M x M') [.ref 0, .int a0, .int a1, .int a2, .int a3] M v M'
theorem rt_vIIIIrZ_e {Q : Int32 → Int32 → Int32 → Int32 → mM → Bool → mM → Prop} {a0 : Int32} {a1 : Int32} {a2 : Int32} {a3 : Int32} {M M' : mM} {z : Int32} : rt_vIIIIrZ Q a0 a1 a2 a3 M (some (.int z)) M' = (rz z fun x => Q a0 a1 a2 a3 M x M') := by
  apply propext
  constructor
  · intro h
    obtain ⟨x, e, hq⟩ := h.2 a0 a1 a2 a3 rfl
    cases e
    exact ⟨x, rfl, hq⟩
  · intro h
    obtain ⟨x, rfl, hq⟩ := h
    exact ⟨⟨_, rfl, bI_nar x⟩, fun _ _ _ _ e => by
      cases e
      exact ⟨x, rfl, hq⟩⟩
theorem mc_vIIIIrZ_of {l : Launch} {y : MethodName} {cc : ByteArray} {maxL fr lo : Nat} {P : Int32 → Int32 → Int32 → Int32 → mM → Prop} {Q : Int32 → Int32 → Int32 → Int32 → mM → Bool → mM → Prop} {T : Nat → Nat → se_Op mM} (hy : plainName y.cls = true) (hyc : y.cls = RX2) (hT : mTS l cc maxL (some .boolean) fr lo T) (hL : 5 ≤ maxL)
    (body : ∀ (a0 : Int32) (a1 : Int32) (a2 : Int32) (a3 : Int32) (M : mM), P a0 a1 a2 a3 M → ∀ G : Nat → se_L → List Value → mM → Prop, (∀ (stops : List Nat) (n pc : Nat) (L : se_L) (st : List Value) (M' : mM), wpN False T cc stops G (fun _ _ _ _ => False) (rt_vIIIIrZ Q a0 a1 a2 a3 M) n pc L st M' → G pc L st M') → G 0 (se_ent [.ref 0, .int a0, .int a1, .int a2, .int a3] maxL) [] M) : mc_vIIIIrZ l y cc maxL fr lo P Q :=
  mOf hy hyc hT (fun av M h => by
    obtain ⟨a0, a1, a2, a3, rfl, _⟩ := h
    exact hL) (fun av M hp G hG => by
    obtain ⟨a0, a1, a2, a3, rfl, hp⟩ := hp
    exact body a0 a1 a2 a3 M hp G hG)
abbrev mc_vIIIIIrI (l : Launch) (y : MethodName) (cc : ByteArray) (maxL fr lo : Nat) (P : Int32 → Int32 → Int32 → Int32 → Int32 → mM → Prop) (Q : Int32 → Int32 → Int32 → Int32 → Int32 → mM → Int32 → mM → Prop) : Prop := mCon l y cc maxL (some .int) fr lo (fun av M => ∃ (a0 : Int32) (a1 : Int32) (a2 : Int32) (a3 : Int32) (a4 : Int32), av = [.ref 0, .int a0, .int a1, .int a2, .int a3, .int a4] ∧ P a0 a1 a2 a3 a4 M) (fun av M v M' => ∀ (a0 : Int32) (a1 : Int32) (a2 : Int32) (a3 : Int32) (a4 : Int32), av = [.ref 0, .int a0, .int a1, .int a2, .int a3, .int a4] → ∃ x, v = some (.int x) ∧ Q a0 a1 a2 a3 a4 M x M')
def ov_vIIIIIrI (P : Int32 → Int32 → Int32 → Int32 → Int32 → mM → Prop) (Q : Int32 → Int32 → Int32 → Int32 → Int32 → mM → Int32 → mM → Prop) : se_Op mM := fun st M K _ => match st with
  | .int a4 :: .int a3 :: .int a2 :: .int a1 :: .int a0 :: .ref 0 :: r => P a0 a1 a2 a3 a4 M ∧ se_c8 8 r ∧ ∀ x M', Q a0 a1 a2 a3 a4 M x M' → K (.int x :: r) M'
  | _ => False
def of_vIIIIIrI (P : Int32 → Int32 → Int32 → Int32 → Int32 → mM → Prop) (R : Int32 → Int32 → Int32 → Int32 → Int32 → mM → Int32) (F : Int32 → Int32 → Int32 → Int32 → Int32 → mM → mM) : se_Op mM := fun st M K _ => match st with
  | .int a4 :: .int a3 :: .int a2 :: .int a1 :: .int a0 :: .ref 0 :: r => P a0 a1 a2 a3 a4 M ∧ se_c8 8 r ∧ K (.int (R a0 a1 a2 a3 a4 M) :: r) (F a0 a1 a2 a3 a4 M)
  | _ => False
theorem ov_vIIIIIrI_r {P : Int32 → Int32 → Int32 → Int32 → Int32 → mM → Prop} {Q : Int32 → Int32 → Int32 → Int32 → Int32 → mM → Int32 → mM → Prop} {a0 : Int32} {a1 : Int32} {a2 : Int32} {a3 : Int32} {a4 : Int32} {r : List Value} {M : mM} {K : List Value → mM → Prop} {X : Nat → mM → Prop} : ov_vIIIIIrI P Q (.int a4 :: .int a3 :: .int a2 :: .int a1 :: .int a0 :: .ref 0 :: r) M K X = (P a0 a1 a2 a3 a4 M ∧ se_c8 8 r ∧ ∀ x M', Q a0 a1 a2 a3 a4 M x M' → K (.int x :: r) M') := rfl
theorem of_vIIIIIrI_r {P : Int32 → Int32 → Int32 → Int32 → Int32 → mM → Prop} {R : Int32 → Int32 → Int32 → Int32 → Int32 → mM → Int32} {F : Int32 → Int32 → Int32 → Int32 → Int32 → mM → mM} {a0 : Int32} {a1 : Int32} {a2 : Int32} {a3 : Int32} {a4 : Int32} {r : List Value} {M : mM} {K : List Value → mM → Prop} {X : Nat → mM → Prop} : of_vIIIIIrI P R F (.int a4 :: .int a3 :: .int a2 :: .int a1 :: .int a0 :: .ref 0 :: r) M K X = (P a0 a1 a2 a3 a4 M ∧ se_c8 8 r ∧ K (.int (R a0 a1 a2 a3 a4 M) :: r) (F a0 a1 a2 a3 a4 M)) := rfl
section
variable {p : Program} {l : Launch} {e : Env} {s : State} {m : MethodId} {args : Array Value} {below : List Frame} {meth : Method} {c : Code} {nL : Nat} {cc : ByteArray} {ret : Option FieldType} {Q0 : State → Prop} {g : mG} {H0 : Heap} {idx fr lo : Nat}
theorem ov_vIIIIIrI_ok {y : MethodName} {cc' : ByteArray} {maxL' fr' lo' : Nat} {P : Int32 → Int32 → Int32 → Int32 → Int32 → mM → Prop} {Q : Int32 → Int32 → Int32 → Int32 → Int32 → mM → Int32 → mM → Prop} (hM : mc_vIIIIIrI l y cc' maxL' fr' lo' P Q) (h1 : Cond.methodLink RX2 idx y ∈ lw_all) (h2 : Cond.instanceMethod y ∈ lw_all) (h3 : Cond.selects RX2 y y ∈ lw_all) (h4 : Cond.initialized RX2 ∈ lw_all) (h5 : Cond.code y cc' maxL' (some .int) ∈ lw_all) (hd0 : y.cls = RX2 ∧ y.cls ≠ "java/lang/invoke/MethodHandle" ∧ y.cls ≠ "java/lang/invoke/VarHandle" ∧ (parseMethodDescriptor y.desc).map (fun d => d.parameters.length) = some 5) (hR : fr' + 1 ≤ fr ∧ 8 + (maxL' + 11) + lo' ≤ lo) (C : se_Cx p s m args meth c cc nL RX2 ret) (hG : mGl g s) (hI : mInj g) : se_Snd p l e (mRoom fr lo) s m args below meth c Q0 nL g.1 (mRM g H0) cc (.invokevirtual idx) 3 (ov_vIIIIIrI P Q) := by
  refine (oC_ok hM h1 h2 h3 h4 h5 hd0 hR C hG hI).mono fun st M K X h => ?_
  unfold ov_vIIIIIrI at h
  split at h
  · rename_i a4 a3 a2 a1 a0 r
    exact ⟨[.int a0, .int a1, .int a2, .int a3, .int a4], r, rfl, rfl, h.2.1, ⟨a0, a1, a2, a3, a4, rfl, h.1⟩, fun v M' hp => by
      obtain ⟨x, rfl, hq⟩ := hp a0 a1 a2 a3 a4 rfl
      exact h.2.2 x M' hq⟩
  · exact h.elim
theorem of_vIIIIIrI_ok {y : MethodName} {cc' : ByteArray} {maxL' fr' lo' : Nat} {P : Int32 → Int32 → Int32 → Int32 → Int32 → mM → Prop} {R : Int32 → Int32 → Int32 → Int32 → Int32 → mM → Int32} {F : Int32 → Int32 → Int32 → Int32 → Int32 → mM → mM} (hM : mc_vIIIIIrI l y cc' maxL' fr' lo' P (fun a0 a1 a2 a3 a4 M x M' => x = R a0 a1 a2 a3 a4 M ∧ M' = F a0 a1 a2 a3 a4 M)) (h1 : Cond.methodLink RX2 idx y ∈ lw_all) (h2 : Cond.instanceMethod y ∈ lw_all) (h3 : Cond.selects RX2 y y ∈ lw_all) (h4 : Cond.initialized RX2 ∈ lw_all) (h5 : Cond.code y cc' maxL' (some .int) ∈ lw_all) (hd0 : y.cls = RX2 ∧ y.cls ≠ "java/lang/invoke/MethodHandle" ∧ y.cls ≠ "java/lang/invoke/VarHandle" ∧ (parseMethodDescriptor y.desc).map (fun d => d.parameters.length) = some 5) (hR : fr' + 1 ≤ fr ∧ 8 + (maxL' + 11) + lo' ≤ lo) (C : se_Cx p s m args meth c cc nL RX2 ret) (hG : mGl g s) (hI : mInj g) : se_Snd p l e (mRoom fr lo) s m args below meth c Q0 nL g.1 (mRM g H0) cc (.invokevirtual idx) 3 (of_vIIIIIrI P R F) := by
  refine (ov_vIIIIIrI_ok hM h1 h2 h3 h4 h5 hd0 hR C hG hI).mono fun st M K X h => ?_
  unfold of_vIIIIIrI at h
  split at h
  · exact ⟨h.1, h.2.1, fun x M' hq => by
      obtain ⟨rfl, rfl⟩ := hq
      exact h.2.2⟩
  · exact h.elim
end
def rt_vIIIIIrI (Q : Int32 → Int32 → Int32 → Int32 → Int32 → mM → Int32 → mM → Prop) (a0 : Int32) (a1 : Int32) (a2 : Int32) (a3 : Int32) (a4 : Int32) (M : mM) : Option Value → mM → Prop := fun v M' => se_nr (some .int) v ∧ (fun (av : List Value) (M : mM) (v : Option Value) (M' : mM) => ∀ (a0 : Int32) (a1 : Int32) (a2 : Int32) (a3 : Int32) (a4 : Int32), av = [.ref 0, .int a0, .int a1, .int a2, .int a3, .int a4] → ∃ x, v = some (.int x) ∧ Q a0 a1 a2 a3 a4 M x M') [.ref 0, .int a0, .int a1, .int a2, .int a3, .int a4] M v M'
theorem rt_vIIIIIrI_e {Q : Int32 → Int32 → Int32 → Int32 → Int32 → mM → Int32 → mM → Prop} {a0 : Int32} {a1 : Int32} {a2 : Int32} {a3 : Int32} {a4 : Int32} {M M' : mM} {z : Int32} : rt_vIIIIIrI Q a0 a1 a2 a3 a4 M (some (.int z)) M' = (Q a0 a1 a2 a3 a4 M z M') := by
  apply propext
  constructor
  · intro h
    obtain ⟨x, e, hq⟩ := h.2 a0 a1 a2 a3 a4 rfl
    cases e
    exact hq
  · intro h
    exact ⟨⟨_, rfl, rfl⟩, fun _ _ _ _ _ e => by
      cases e
      exact ⟨z, rfl, h⟩⟩
theorem mc_vIIIIIrI_of {l : Launch} {y : MethodName} {cc : ByteArray} {maxL fr lo : Nat} {P : Int32 → Int32 → Int32 → Int32 → Int32 → mM → Prop} {Q : Int32 → Int32 → Int32 → Int32 → Int32 → mM → Int32 → mM → Prop} {T : Nat → Nat → se_Op mM} (hy : plainName y.cls = true) (hyc : y.cls = RX2) (hT : mTS l cc maxL (some .int) fr lo T) (hL : 6 ≤ maxL)
    (body : ∀ (a0 : Int32) (a1 : Int32) (a2 : Int32) (a3 : Int32) (a4 : Int32) (M : mM), P a0 a1 a2 a3 a4 M → ∀ G : Nat → se_L → List Value → mM → Prop, (∀ (stops : List Nat) (n pc : Nat) (L : se_L) (st : List Value) (M' : mM), wpN False T cc stops G (fun _ _ _ _ => False) (rt_vIIIIIrI Q a0 a1 a2 a3 a4 M) n pc L st M' → G pc L st M') → G 0 (se_ent [.ref 0, .int a0, .int a1, .int a2, .int a3, .int a4] maxL) [] M) : mc_vIIIIIrI l y cc maxL fr lo P Q :=
  mOf hy hyc hT (fun av M h => by
    obtain ⟨a0, a1, a2, a3, a4, rfl, _⟩ := h
    exact hL) (fun av M hp G hG => by
    obtain ⟨a0, a1, a2, a3, a4, rfl, hp⟩ := hp
    exact body a0 a1 a2 a3 a4 M hp G hG)
abbrev mc_vIIIIIrJ (l : Launch) (y : MethodName) (cc : ByteArray) (maxL fr lo : Nat) (P : Int32 → Int32 → Int32 → Int32 → Int32 → mM → Prop) (Q : Int32 → Int32 → Int32 → Int32 → Int32 → mM → Int64 → mM → Prop) : Prop := mCon l y cc maxL (some .long) fr lo (fun av M => ∃ (a0 : Int32) (a1 : Int32) (a2 : Int32) (a3 : Int32) (a4 : Int32), av = [.ref 0, .int a0, .int a1, .int a2, .int a3, .int a4] ∧ P a0 a1 a2 a3 a4 M) (fun av M v M' => ∀ (a0 : Int32) (a1 : Int32) (a2 : Int32) (a3 : Int32) (a4 : Int32), av = [.ref 0, .int a0, .int a1, .int a2, .int a3, .int a4] → ∃ x, v = some (.long x) ∧ Q a0 a1 a2 a3 a4 M x M')
def ov_vIIIIIrJ (P : Int32 → Int32 → Int32 → Int32 → Int32 → mM → Prop) (Q : Int32 → Int32 → Int32 → Int32 → Int32 → mM → Int64 → mM → Prop) : se_Op mM := fun st M K _ => match st with
  | .int a4 :: .int a3 :: .int a2 :: .int a1 :: .int a0 :: .ref 0 :: r => P a0 a1 a2 a3 a4 M ∧ se_c8 8 r ∧ ∀ x M', Q a0 a1 a2 a3 a4 M x M' → K (.long x :: r) M'
  | _ => False
def of_vIIIIIrJ (P : Int32 → Int32 → Int32 → Int32 → Int32 → mM → Prop) (R : Int32 → Int32 → Int32 → Int32 → Int32 → mM → Int64) (F : Int32 → Int32 → Int32 → Int32 → Int32 → mM → mM) : se_Op mM := fun st M K _ => match st with
  | .int a4 :: .int a3 :: .int a2 :: .int a1 :: .int a0 :: .ref 0 :: r => P a0 a1 a2 a3 a4 M ∧ se_c8 8 r ∧ K (.long (R a0 a1 a2 a3 a4 M) :: r) (F a0 a1 a2 a3 a4 M)
  | _ => False
theorem ov_vIIIIIrJ_r {P : Int32 → Int32 → Int32 → Int32 → Int32 → mM → Prop} {Q : Int32 → Int32 → Int32 → Int32 → Int32 → mM → Int64 → mM → Prop} {a0 : Int32} {a1 : Int32} {a2 : Int32} {a3 : Int32} {a4 : Int32} {r : List Value} {M : mM} {K : List Value → mM → Prop} {X : Nat → mM → Prop} : ov_vIIIIIrJ P Q (.int a4 :: .int a3 :: .int a2 :: .int a1 :: .int a0 :: .ref 0 :: r) M K X = (P a0 a1 a2 a3 a4 M ∧ se_c8 8 r ∧ ∀ x M', Q a0 a1 a2 a3 a4 M x M' → K (.long x :: r) M') := rfl
theorem of_vIIIIIrJ_r {P : Int32 → Int32 → Int32 → Int32 → Int32 → mM → Prop} {R : Int32 → Int32 → Int32 → Int32 → Int32 → mM → Int64} {F : Int32 → Int32 → Int32 → Int32 → Int32 → mM → mM} {a0 : Int32} {a1 : Int32} {a2 : Int32} {a3 : Int32} {a4 : Int32} {r : List Value} {M : mM} {K : List Value → mM → Prop} {X : Nat → mM → Prop} : of_vIIIIIrJ P R F (.int a4 :: .int a3 :: .int a2 :: .int a1 :: .int a0 :: .ref 0 :: r) M K X = (P a0 a1 a2 a3 a4 M ∧ se_c8 8 r ∧ K (.long (R a0 a1 a2 a3 a4 M) :: r) (F a0 a1 a2 a3 a4 M)) := rfl
section
variable {p : Program} {l : Launch} {e : Env} {s : State} {m : MethodId} {args : Array Value} {below : List Frame} {meth : Method} {c : Code} {nL : Nat} {cc : ByteArray} {ret : Option FieldType} {Q0 : State → Prop} {g : mG} {H0 : Heap} {idx fr lo : Nat}
theorem ov_vIIIIIrJ_ok {y : MethodName} {cc' : ByteArray} {maxL' fr' lo' : Nat} {P : Int32 → Int32 → Int32 → Int32 → Int32 → mM → Prop} {Q : Int32 → Int32 → Int32 → Int32 → Int32 → mM → Int64 → mM → Prop} (hM : mc_vIIIIIrJ l y cc' maxL' fr' lo' P Q) (h1 : Cond.methodLink RX2 idx y ∈ lw_all) (h2 : Cond.instanceMethod y ∈ lw_all) (h3 : Cond.selects RX2 y y ∈ lw_all) (h4 : Cond.initialized RX2 ∈ lw_all) (h5 : Cond.code y cc' maxL' (some .long) ∈ lw_all) (hd0 : y.cls = RX2 ∧ y.cls ≠ "java/lang/invoke/MethodHandle" ∧ y.cls ≠ "java/lang/invoke/VarHandle" ∧ (parseMethodDescriptor y.desc).map (fun d => d.parameters.length) = some 5) (hR : fr' + 1 ≤ fr ∧ 8 + (maxL' + 11) + lo' ≤ lo) (C : se_Cx p s m args meth c cc nL RX2 ret) (hG : mGl g s) (hI : mInj g) : se_Snd p l e (mRoom fr lo) s m args below meth c Q0 nL g.1 (mRM g H0) cc (.invokevirtual idx) 3 (ov_vIIIIIrJ P Q) := by
  refine (oC_ok hM h1 h2 h3 h4 h5 hd0 hR C hG hI).mono fun st M K X h => ?_
  unfold ov_vIIIIIrJ at h
  split at h
  · rename_i a4 a3 a2 a1 a0 r
    exact ⟨[.int a0, .int a1, .int a2, .int a3, .int a4], r, rfl, rfl, h.2.1, ⟨a0, a1, a2, a3, a4, rfl, h.1⟩, fun v M' hp => by
      obtain ⟨x, rfl, hq⟩ := hp a0 a1 a2 a3 a4 rfl
      exact h.2.2 x M' hq⟩
  · exact h.elim
theorem of_vIIIIIrJ_ok {y : MethodName} {cc' : ByteArray} {maxL' fr' lo' : Nat} {P : Int32 → Int32 → Int32 → Int32 → Int32 → mM → Prop} {R : Int32 → Int32 → Int32 → Int32 → Int32 → mM → Int64} {F : Int32 → Int32 → Int32 → Int32 → Int32 → mM → mM} (hM : mc_vIIIIIrJ l y cc' maxL' fr' lo' P (fun a0 a1 a2 a3 a4 M x M' => x = R a0 a1 a2 a3 a4 M ∧ M' = F a0 a1 a2 a3 a4 M)) (h1 : Cond.methodLink RX2 idx y ∈ lw_all) (h2 : Cond.instanceMethod y ∈ lw_all) (h3 : Cond.selects RX2 y y ∈ lw_all) (h4 : Cond.initialized RX2 ∈ lw_all) (h5 : Cond.code y cc' maxL' (some .long) ∈ lw_all) (hd0 : y.cls = RX2 ∧ y.cls ≠ "java/lang/invoke/MethodHandle" ∧ y.cls ≠ "java/lang/invoke/VarHandle" ∧ (parseMethodDescriptor y.desc).map (fun d => d.parameters.length) = some 5) (hR : fr' + 1 ≤ fr ∧ 8 + (maxL' + 11) + lo' ≤ lo) (C : se_Cx p s m args meth c cc nL RX2 ret) (hG : mGl g s) (hI : mInj g) : se_Snd p l e (mRoom fr lo) s m args below meth c Q0 nL g.1 (mRM g H0) cc (.invokevirtual idx) 3 (of_vIIIIIrJ P R F) := by
  refine (ov_vIIIIIrJ_ok hM h1 h2 h3 h4 h5 hd0 hR C hG hI).mono fun st M K X h => ?_
  unfold of_vIIIIIrJ at h
  split at h
  · exact ⟨h.1, h.2.1, fun x M' hq => by
      obtain ⟨rfl, rfl⟩ := hq
      exact h.2.2⟩
  · exact h.elim
end
def rt_vIIIIIrJ (Q : Int32 → Int32 → Int32 → Int32 → Int32 → mM → Int64 → mM → Prop) (a0 : Int32) (a1 : Int32) (a2 : Int32) (a3 : Int32) (a4 : Int32) (M : mM) : Option Value → mM → Prop := fun v M' => se_nr (some .long) v ∧ (fun (av : List Value) (M : mM) (v : Option Value) (M' : mM) => ∀ (a0 : Int32) (a1 : Int32) (a2 : Int32) (a3 : Int32) (a4 : Int32), av = [.ref 0, .int a0, .int a1, .int a2, .int a3, .int a4] → ∃ x, v = some (.long x) ∧ Q a0 a1 a2 a3 a4 M x M') [.ref 0, .int a0, .int a1, .int a2, .int a3, .int a4] M v M'
theorem rt_vIIIIIrJ_e {Q : Int32 → Int32 → Int32 → Int32 → Int32 → mM → Int64 → mM → Prop} {a0 : Int32} {a1 : Int32} {a2 : Int32} {a3 : Int32} {a4 : Int32} {M M' : mM} {z : Int64} : rt_vIIIIIrJ Q a0 a1 a2 a3 a4 M (some (.long z)) M' = (Q a0 a1 a2 a3 a4 M z M') := by
  apply propext
  constructor
  · intro h
    obtain ⟨x, e, hq⟩ := h.2 a0 a1 a2 a3 a4 rfl
    cases e
    exact hq
  · intro h
    exact ⟨rfl, fun _ _ _ _ _ e => by
      cases e
      exact ⟨z, rfl, h⟩⟩
theorem mc_vIIIIIrJ_of {l : Launch} {y : MethodName} {cc : ByteArray} {maxL fr lo : Nat} {P : Int32 → Int32 → Int32 → Int32 → Int32 → mM → Prop} {Q : Int32 → Int32 → Int32 → Int32 → Int32 → mM → Int64 → mM → Prop} {T : Nat → Nat → se_Op mM} (hy : plainName y.cls = true) (hyc : y.cls = RX2) (hT : mTS l cc maxL (some .long) fr lo T) (hL : 6 ≤ maxL)
    (body : ∀ (a0 : Int32) (a1 : Int32) (a2 : Int32) (a3 : Int32) (a4 : Int32) (M : mM), P a0 a1 a2 a3 a4 M → ∀ G : Nat → se_L → List Value → mM → Prop, (∀ (stops : List Nat) (n pc : Nat) (L : se_L) (st : List Value) (M' : mM), wpN False T cc stops G (fun _ _ _ _ => False) (rt_vIIIIIrJ Q a0 a1 a2 a3 a4 M) n pc L st M' → G pc L st M') → G 0 (se_ent [.ref 0, .int a0, .int a1, .int a2, .int a3, .int a4] maxL) [] M) : mc_vIIIIIrJ l y cc maxL fr lo P Q :=
  mOf hy hyc hT (fun av M h => by
    obtain ⟨a0, a1, a2, a3, a4, rfl, _⟩ := h
    exact hL) (fun av M hp G hG => by
    obtain ⟨a0, a1, a2, a3, a4, rfl, hp⟩ := hp
    exact body a0 a1 a2 a3 a4 M hp G hG)
abbrev mc_vIIIIIrZ (l : Launch) (y : MethodName) (cc : ByteArray) (maxL fr lo : Nat) (P : Int32 → Int32 → Int32 → Int32 → Int32 → mM → Prop) (Q : Int32 → Int32 → Int32 → Int32 → Int32 → mM → Bool → mM → Prop) : Prop := mCon l y cc maxL (some .boolean) fr lo (fun av M => ∃ (a0 : Int32) (a1 : Int32) (a2 : Int32) (a3 : Int32) (a4 : Int32), av = [.ref 0, .int a0, .int a1, .int a2, .int a3, .int a4] ∧ P a0 a1 a2 a3 a4 M) (fun av M v M' => ∀ (a0 : Int32) (a1 : Int32) (a2 : Int32) (a3 : Int32) (a4 : Int32), av = [.ref 0, .int a0, .int a1, .int a2, .int a3, .int a4] → ∃ x, v = some (.int (bI x)) ∧ Q a0 a1 a2 a3 a4 M x M')
def ov_vIIIIIrZ (P : Int32 → Int32 → Int32 → Int32 → Int32 → mM → Prop) (Q : Int32 → Int32 → Int32 → Int32 → Int32 → mM → Bool → mM → Prop) : se_Op mM := fun st M K _ => match st with
  | .int a4 :: .int a3 :: .int a2 :: .int a1 :: .int a0 :: .ref 0 :: r => P a0 a1 a2 a3 a4 M ∧ se_c8 8 r ∧ ∀ x M', Q a0 a1 a2 a3 a4 M x M' → K (.int (bI x) :: r) M'
  | _ => False
def of_vIIIIIrZ (P : Int32 → Int32 → Int32 → Int32 → Int32 → mM → Prop) (R : Int32 → Int32 → Int32 → Int32 → Int32 → mM → Bool) (F : Int32 → Int32 → Int32 → Int32 → Int32 → mM → mM) : se_Op mM := fun st M K _ => match st with
  | .int a4 :: .int a3 :: .int a2 :: .int a1 :: .int a0 :: .ref 0 :: r => P a0 a1 a2 a3 a4 M ∧ se_c8 8 r ∧ K (.int (bI (R a0 a1 a2 a3 a4 M)) :: r) (F a0 a1 a2 a3 a4 M)
  | _ => False
theorem ov_vIIIIIrZ_r {P : Int32 → Int32 → Int32 → Int32 → Int32 → mM → Prop} {Q : Int32 → Int32 → Int32 → Int32 → Int32 → mM → Bool → mM → Prop} {a0 : Int32} {a1 : Int32} {a2 : Int32} {a3 : Int32} {a4 : Int32} {r : List Value} {M : mM} {K : List Value → mM → Prop} {X : Nat → mM → Prop} : ov_vIIIIIrZ P Q (.int a4 :: .int a3 :: .int a2 :: .int a1 :: .int a0 :: .ref 0 :: r) M K X = (P a0 a1 a2 a3 a4 M ∧ se_c8 8 r ∧ ∀ x M', Q a0 a1 a2 a3 a4 M x M' → K (.int (bI x) :: r) M') := rfl
theorem of_vIIIIIrZ_r {P : Int32 → Int32 → Int32 → Int32 → Int32 → mM → Prop} {R : Int32 → Int32 → Int32 → Int32 → Int32 → mM → Bool} {F : Int32 → Int32 → Int32 → Int32 → Int32 → mM → mM} {a0 : Int32} {a1 : Int32} {a2 : Int32} {a3 : Int32} {a4 : Int32} {r : List Value} {M : mM} {K : List Value → mM → Prop} {X : Nat → mM → Prop} : of_vIIIIIrZ P R F (.int a4 :: .int a3 :: .int a2 :: .int a1 :: .int a0 :: .ref 0 :: r) M K X = (P a0 a1 a2 a3 a4 M ∧ se_c8 8 r ∧ K (.int (bI (R a0 a1 a2 a3 a4 M)) :: r) (F a0 a1 a2 a3 a4 M)) := rfl
section
variable {p : Program} {l : Launch} {e : Env} {s : State} {m : MethodId} {args : Array Value} {below : List Frame} {meth : Method} {c : Code} {nL : Nat} {cc : ByteArray} {ret : Option FieldType} {Q0 : State → Prop} {g : mG} {H0 : Heap} {idx fr lo : Nat}
theorem ov_vIIIIIrZ_ok {y : MethodName} {cc' : ByteArray} {maxL' fr' lo' : Nat} {P : Int32 → Int32 → Int32 → Int32 → Int32 → mM → Prop} {Q : Int32 → Int32 → Int32 → Int32 → Int32 → mM → Bool → mM → Prop} (hM : mc_vIIIIIrZ l y cc' maxL' fr' lo' P Q) (h1 : Cond.methodLink RX2 idx y ∈ lw_all) (h2 : Cond.instanceMethod y ∈ lw_all) (h3 : Cond.selects RX2 y y ∈ lw_all) (h4 : Cond.initialized RX2 ∈ lw_all) (h5 : Cond.code y cc' maxL' (some .boolean) ∈ lw_all) (hd0 : y.cls = RX2 ∧ y.cls ≠ "java/lang/invoke/MethodHandle" ∧ y.cls ≠ "java/lang/invoke/VarHandle" ∧ (parseMethodDescriptor y.desc).map (fun d => d.parameters.length) = some 5) (hR : fr' + 1 ≤ fr ∧ 8 + (maxL' + 11) + lo' ≤ lo) (C : se_Cx p s m args meth c cc nL RX2 ret) (hG : mGl g s) (hI : mInj g) : se_Snd p l e (mRoom fr lo) s m args below meth c Q0 nL g.1 (mRM g H0) cc (.invokevirtual idx) 3 (ov_vIIIIIrZ P Q) := by
  refine (oC_ok hM h1 h2 h3 h4 h5 hd0 hR C hG hI).mono fun st M K X h => ?_
  unfold ov_vIIIIIrZ at h
  split at h
  · rename_i a4 a3 a2 a1 a0 r
    exact ⟨[.int a0, .int a1, .int a2, .int a3, .int a4], r, rfl, rfl, h.2.1, ⟨a0, a1, a2, a3, a4, rfl, h.1⟩, fun v M' hp => by
      obtain ⟨x, rfl, hq⟩ := hp a0 a1 a2 a3 a4 rfl
      exact h.2.2 x M' hq⟩
  · exact h.elim
theorem of_vIIIIIrZ_ok {y : MethodName} {cc' : ByteArray} {maxL' fr' lo' : Nat} {P : Int32 → Int32 → Int32 → Int32 → Int32 → mM → Prop} {R : Int32 → Int32 → Int32 → Int32 → Int32 → mM → Bool} {F : Int32 → Int32 → Int32 → Int32 → Int32 → mM → mM} (hM : mc_vIIIIIrZ l y cc' maxL' fr' lo' P (fun a0 a1 a2 a3 a4 M x M' => x = R a0 a1 a2 a3 a4 M ∧ M' = F a0 a1 a2 a3 a4 M)) (h1 : Cond.methodLink RX2 idx y ∈ lw_all) (h2 : Cond.instanceMethod y ∈ lw_all) (h3 : Cond.selects RX2 y y ∈ lw_all) (h4 : Cond.initialized RX2 ∈ lw_all) (h5 : Cond.code y cc' maxL' (some .boolean) ∈ lw_all) (hd0 : y.cls = RX2 ∧ y.cls ≠ "java/lang/invoke/MethodHandle" ∧ y.cls ≠ "java/lang/invoke/VarHandle" ∧ (parseMethodDescriptor y.desc).map (fun d => d.parameters.length) = some 5) (hR : fr' + 1 ≤ fr ∧ 8 + (maxL' + 11) + lo' ≤ lo) (C : se_Cx p s m args meth c cc nL RX2 ret) (hG : mGl g s) (hI : mInj g) : se_Snd p l e (mRoom fr lo) s m args below meth c Q0 nL g.1 (mRM g H0) cc (.invokevirtual idx) 3 (of_vIIIIIrZ P R F) := by
  refine (ov_vIIIIIrZ_ok hM h1 h2 h3 h4 h5 hd0 hR C hG hI).mono fun st M K X h => ?_
  unfold of_vIIIIIrZ at h
  split at h
  · exact ⟨h.1, h.2.1, fun x M' hq => by
      obtain ⟨rfl, rfl⟩ := hq
      exact h.2.2⟩
  · exact h.elim
end
def rt_vIIIIIrZ (Q : Int32 → Int32 → Int32 → Int32 → Int32 → mM → Bool → mM → Prop) (a0 : Int32) (a1 : Int32) (a2 : Int32) (a3 : Int32) (a4 : Int32) (M : mM) : Option Value → mM → Prop := fun v M' => se_nr (some .boolean) v ∧ (fun (av : List Value) (M : mM) (v : Option Value) (M' : mM) => ∀ (a0 : Int32) (a1 : Int32) (a2 : Int32) (a3 : Int32) (a4 : Int32), av = [.ref 0, .int a0, .int a1, .int a2, .int a3, .int a4] → ∃ x, v = some (.int (bI x)) ∧ Q a0 a1 a2 a3 a4 M x M') [.ref 0, .int a0, .int a1, .int a2, .int a3, .int a4] M v M'
theorem rt_vIIIIIrZ_e {Q : Int32 → Int32 → Int32 → Int32 → Int32 → mM → Bool → mM → Prop} {a0 : Int32} {a1 : Int32} {a2 : Int32} {a3 : Int32} {a4 : Int32} {M M' : mM} {z : Int32} : rt_vIIIIIrZ Q a0 a1 a2 a3 a4 M (some (.int z)) M' = (rz z fun x => Q a0 a1 a2 a3 a4 M x M') := by
  apply propext
  constructor
  · intro h
    obtain ⟨x, e, hq⟩ := h.2 a0 a1 a2 a3 a4 rfl
    cases e
    exact ⟨x, rfl, hq⟩
  · intro h
    obtain ⟨x, rfl, hq⟩ := h
    exact ⟨⟨_, rfl, bI_nar x⟩, fun _ _ _ _ _ e => by
      cases e
      exact ⟨x, rfl, hq⟩⟩
theorem mc_vIIIIIrZ_of {l : Launch} {y : MethodName} {cc : ByteArray} {maxL fr lo : Nat} {P : Int32 → Int32 → Int32 → Int32 → Int32 → mM → Prop} {Q : Int32 → Int32 → Int32 → Int32 → Int32 → mM → Bool → mM → Prop} {T : Nat → Nat → se_Op mM} (hy : plainName y.cls = true) (hyc : y.cls = RX2) (hT : mTS l cc maxL (some .boolean) fr lo T) (hL : 6 ≤ maxL)
    (body : ∀ (a0 : Int32) (a1 : Int32) (a2 : Int32) (a3 : Int32) (a4 : Int32) (M : mM), P a0 a1 a2 a3 a4 M → ∀ G : Nat → se_L → List Value → mM → Prop, (∀ (stops : List Nat) (n pc : Nat) (L : se_L) (st : List Value) (M' : mM), wpN False T cc stops G (fun _ _ _ _ => False) (rt_vIIIIIrZ Q a0 a1 a2 a3 a4 M) n pc L st M' → G pc L st M') → G 0 (se_ent [.ref 0, .int a0, .int a1, .int a2, .int a3, .int a4] maxL) [] M) : mc_vIIIIIrZ l y cc maxL fr lo P Q :=
  mOf hy hyc hT (fun av M h => by
    obtain ⟨a0, a1, a2, a3, a4, rfl, _⟩ := h
    exact hL) (fun av M hp G hG => by
    obtain ⟨a0, a1, a2, a3, a4, rfl, hp⟩ := hp
    exact body a0 a1 a2 a3 a4 M hp G hG)
abbrev mc_vIIIIIIrI (l : Launch) (y : MethodName) (cc : ByteArray) (maxL fr lo : Nat) (P : Int32 → Int32 → Int32 → Int32 → Int32 → Int32 → mM → Prop) (Q : Int32 → Int32 → Int32 → Int32 → Int32 → Int32 → mM → Int32 → mM → Prop) : Prop := mCon l y cc maxL (some .int) fr lo (fun av M => ∃ (a0 : Int32) (a1 : Int32) (a2 : Int32) (a3 : Int32) (a4 : Int32) (a5 : Int32), av = [.ref 0, .int a0, .int a1, .int a2, .int a3, .int a4, .int a5] ∧ P a0 a1 a2 a3 a4 a5 M) (fun av M v M' => ∀ (a0 : Int32) (a1 : Int32) (a2 : Int32) (a3 : Int32) (a4 : Int32) (a5 : Int32), av = [.ref 0, .int a0, .int a1, .int a2, .int a3, .int a4, .int a5] → ∃ x, v = some (.int x) ∧ Q a0 a1 a2 a3 a4 a5 M x M')
def ov_vIIIIIIrI (P : Int32 → Int32 → Int32 → Int32 → Int32 → Int32 → mM → Prop) (Q : Int32 → Int32 → Int32 → Int32 → Int32 → Int32 → mM → Int32 → mM → Prop) : se_Op mM := fun st M K _ => match st with
  | .int a5 :: .int a4 :: .int a3 :: .int a2 :: .int a1 :: .int a0 :: .ref 0 :: r => P a0 a1 a2 a3 a4 a5 M ∧ se_c8 8 r ∧ ∀ x M', Q a0 a1 a2 a3 a4 a5 M x M' → K (.int x :: r) M'
  | _ => False
def of_vIIIIIIrI (P : Int32 → Int32 → Int32 → Int32 → Int32 → Int32 → mM → Prop) (R : Int32 → Int32 → Int32 → Int32 → Int32 → Int32 → mM → Int32) (F : Int32 → Int32 → Int32 → Int32 → Int32 → Int32 → mM → mM) : se_Op mM := fun st M K _ => match st with
  | .int a5 :: .int a4 :: .int a3 :: .int a2 :: .int a1 :: .int a0 :: .ref 0 :: r => P a0 a1 a2 a3 a4 a5 M ∧ se_c8 8 r ∧ K (.int (R a0 a1 a2 a3 a4 a5 M) :: r) (F a0 a1 a2 a3 a4 a5 M)
  | _ => False
theorem ov_vIIIIIIrI_r {P : Int32 → Int32 → Int32 → Int32 → Int32 → Int32 → mM → Prop} {Q : Int32 → Int32 → Int32 → Int32 → Int32 → Int32 → mM → Int32 → mM → Prop} {a0 : Int32} {a1 : Int32} {a2 : Int32} {a3 : Int32} {a4 : Int32} {a5 : Int32} {r : List Value} {M : mM} {K : List Value → mM → Prop} {X : Nat → mM → Prop} : ov_vIIIIIIrI P Q (.int a5 :: .int a4 :: .int a3 :: .int a2 :: .int a1 :: .int a0 :: .ref 0 :: r) M K X = (P a0 a1 a2 a3 a4 a5 M ∧ se_c8 8 r ∧ ∀ x M', Q a0 a1 a2 a3 a4 a5 M x M' → K (.int x :: r) M') := rfl
theorem of_vIIIIIIrI_r {P : Int32 → Int32 → Int32 → Int32 → Int32 → Int32 → mM → Prop} {R : Int32 → Int32 → Int32 → Int32 → Int32 → Int32 → mM → Int32} {F : Int32 → Int32 → Int32 → Int32 → Int32 → Int32 → mM → mM} {a0 : Int32} {a1 : Int32} {a2 : Int32} {a3 : Int32} {a4 : Int32} {a5 : Int32} {r : List Value} {M : mM} {K : List Value → mM → Prop} {X : Nat → mM → Prop} : of_vIIIIIIrI P R F (.int a5 :: .int a4 :: .int a3 :: .int a2 :: .int a1 :: .int a0 :: .ref 0 :: r) M K X = (P a0 a1 a2 a3 a4 a5 M ∧ se_c8 8 r ∧ K (.int (R a0 a1 a2 a3 a4 a5 M) :: r) (F a0 a1 a2 a3 a4 a5 M)) := rfl
section
variable {p : Program} {l : Launch} {e : Env} {s : State} {m : MethodId} {args : Array Value} {below : List Frame} {meth : Method} {c : Code} {nL : Nat} {cc : ByteArray} {ret : Option FieldType} {Q0 : State → Prop} {g : mG} {H0 : Heap} {idx fr lo : Nat}
theorem ov_vIIIIIIrI_ok {y : MethodName} {cc' : ByteArray} {maxL' fr' lo' : Nat} {P : Int32 → Int32 → Int32 → Int32 → Int32 → Int32 → mM → Prop} {Q : Int32 → Int32 → Int32 → Int32 → Int32 → Int32 → mM → Int32 → mM → Prop} (hM : mc_vIIIIIIrI l y cc' maxL' fr' lo' P Q) (h1 : Cond.methodLink RX2 idx y ∈ lw_all) (h2 : Cond.instanceMethod y ∈ lw_all) (h3 : Cond.selects RX2 y y ∈ lw_all) (h4 : Cond.initialized RX2 ∈ lw_all) (h5 : Cond.code y cc' maxL' (some .int) ∈ lw_all) (hd0 : y.cls = RX2 ∧ y.cls ≠ "java/lang/invoke/MethodHandle" ∧ y.cls ≠ "java/lang/invoke/VarHandle" ∧ (parseMethodDescriptor y.desc).map (fun d => d.parameters.length) = some 6) (hR : fr' + 1 ≤ fr ∧ 8 + (maxL' + 11) + lo' ≤ lo) (C : se_Cx p s m args meth c cc nL RX2 ret) (hG : mGl g s) (hI : mInj g) : se_Snd p l e (mRoom fr lo) s m args below meth c Q0 nL g.1 (mRM g H0) cc (.invokevirtual idx) 3 (ov_vIIIIIIrI P Q) := by
  refine (oC_ok hM h1 h2 h3 h4 h5 hd0 hR C hG hI).mono fun st M K X h => ?_
  unfold ov_vIIIIIIrI at h
  split at h
  · rename_i a5 a4 a3 a2 a1 a0 r
    exact ⟨[.int a0, .int a1, .int a2, .int a3, .int a4, .int a5], r, rfl, rfl, h.2.1, ⟨a0, a1, a2, a3, a4, a5, rfl, h.1⟩, fun v M' hp => by
      obtain ⟨x, rfl, hq⟩ := hp a0 a1 a2 a3 a4 a5 rfl
      exact h.2.2 x M' hq⟩
  · exact h.elim
theorem of_vIIIIIIrI_ok {y : MethodName} {cc' : ByteArray} {maxL' fr' lo' : Nat} {P : Int32 → Int32 → Int32 → Int32 → Int32 → Int32 → mM → Prop} {R : Int32 → Int32 → Int32 → Int32 → Int32 → Int32 → mM → Int32} {F : Int32 → Int32 → Int32 → Int32 → Int32 → Int32 → mM → mM} (hM : mc_vIIIIIIrI l y cc' maxL' fr' lo' P (fun a0 a1 a2 a3 a4 a5 M x M' => x = R a0 a1 a2 a3 a4 a5 M ∧ M' = F a0 a1 a2 a3 a4 a5 M)) (h1 : Cond.methodLink RX2 idx y ∈ lw_all) (h2 : Cond.instanceMethod y ∈ lw_all) (h3 : Cond.selects RX2 y y ∈ lw_all) (h4 : Cond.initialized RX2 ∈ lw_all) (h5 : Cond.code y cc' maxL' (some .int) ∈ lw_all) (hd0 : y.cls = RX2 ∧ y.cls ≠ "java/lang/invoke/MethodHandle" ∧ y.cls ≠ "java/lang/invoke/VarHandle" ∧ (parseMethodDescriptor y.desc).map (fun d => d.parameters.length) = some 6) (hR : fr' + 1 ≤ fr ∧ 8 + (maxL' + 11) + lo' ≤ lo) (C : se_Cx p s m args meth c cc nL RX2 ret) (hG : mGl g s) (hI : mInj g) : se_Snd p l e (mRoom fr lo) s m args below meth c Q0 nL g.1 (mRM g H0) cc (.invokevirtual idx) 3 (of_vIIIIIIrI P R F) := by
  refine (ov_vIIIIIIrI_ok hM h1 h2 h3 h4 h5 hd0 hR C hG hI).mono fun st M K X h => ?_
  unfold of_vIIIIIIrI at h
  split at h
  · exact ⟨h.1, h.2.1, fun x M' hq => by
      obtain ⟨rfl, rfl⟩ := hq
      exact h.2.2⟩
  · exact h.elim
end
def rt_vIIIIIIrI (Q : Int32 → Int32 → Int32 → Int32 → Int32 → Int32 → mM → Int32 → mM → Prop) (a0 : Int32) (a1 : Int32) (a2 : Int32) (a3 : Int32) (a4 : Int32) (a5 : Int32) (M : mM) : Option Value → mM → Prop := fun v M' => se_nr (some .int) v ∧ (fun (av : List Value) (M : mM) (v : Option Value) (M' : mM) => ∀ (a0 : Int32) (a1 : Int32) (a2 : Int32) (a3 : Int32) (a4 : Int32) (a5 : Int32), av = [.ref 0, .int a0, .int a1, .int a2, .int a3, .int a4, .int a5] → ∃ x, v = some (.int x) ∧ Q a0 a1 a2 a3 a4 a5 M x M') [.ref 0, .int a0, .int a1, .int a2, .int a3, .int a4, .int a5] M v M'
theorem rt_vIIIIIIrI_e {Q : Int32 → Int32 → Int32 → Int32 → Int32 → Int32 → mM → Int32 → mM → Prop} {a0 : Int32} {a1 : Int32} {a2 : Int32} {a3 : Int32} {a4 : Int32} {a5 : Int32} {M M' : mM} {z : Int32} : rt_vIIIIIIrI Q a0 a1 a2 a3 a4 a5 M (some (.int z)) M' = (Q a0 a1 a2 a3 a4 a5 M z M') := by
  apply propext
  constructor
  · intro h
    obtain ⟨x, e, hq⟩ := h.2 a0 a1 a2 a3 a4 a5 rfl
    cases e
    exact hq
  · intro h
    exact ⟨⟨_, rfl, rfl⟩, fun _ _ _ _ _ _ e => by
      cases e
      exact ⟨z, rfl, h⟩⟩
theorem mc_vIIIIIIrI_of {l : Launch} {y : MethodName} {cc : ByteArray} {maxL fr lo : Nat} {P : Int32 → Int32 → Int32 → Int32 → Int32 → Int32 → mM → Prop} {Q : Int32 → Int32 → Int32 → Int32 → Int32 → Int32 → mM → Int32 → mM → Prop} {T : Nat → Nat → se_Op mM} (hy : plainName y.cls = true) (hyc : y.cls = RX2) (hT : mTS l cc maxL (some .int) fr lo T) (hL : 7 ≤ maxL)
    (body : ∀ (a0 : Int32) (a1 : Int32) (a2 : Int32) (a3 : Int32) (a4 : Int32) (a5 : Int32) (M : mM), P a0 a1 a2 a3 a4 a5 M → ∀ G : Nat → se_L → List Value → mM → Prop, (∀ (stops : List Nat) (n pc : Nat) (L : se_L) (st : List Value) (M' : mM), wpN False T cc stops G (fun _ _ _ _ => False) (rt_vIIIIIIrI Q a0 a1 a2 a3 a4 a5 M) n pc L st M' → G pc L st M') → G 0 (se_ent [.ref 0, .int a0, .int a1, .int a2, .int a3, .int a4, .int a5] maxL) [] M) : mc_vIIIIIIrI l y cc maxL fr lo P Q :=
  mOf hy hyc hT (fun av M h => by
    obtain ⟨a0, a1, a2, a3, a4, a5, rfl, _⟩ := h
    exact hL) (fun av M hp G hG => by
    obtain ⟨a0, a1, a2, a3, a4, a5, rfl, hp⟩ := hp
    exact body a0 a1 a2 a3 a4 a5 M hp G hG)
abbrev mc_vIIIIIIrZ (l : Launch) (y : MethodName) (cc : ByteArray) (maxL fr lo : Nat) (P : Int32 → Int32 → Int32 → Int32 → Int32 → Int32 → mM → Prop) (Q : Int32 → Int32 → Int32 → Int32 → Int32 → Int32 → mM → Bool → mM → Prop) : Prop := mCon l y cc maxL (some .boolean) fr lo (fun av M => ∃ (a0 : Int32) (a1 : Int32) (a2 : Int32) (a3 : Int32) (a4 : Int32) (a5 : Int32), av = [.ref 0, .int a0, .int a1, .int a2, .int a3, .int a4, .int a5] ∧ P a0 a1 a2 a3 a4 a5 M) (fun av M v M' => ∀ (a0 : Int32) (a1 : Int32) (a2 : Int32) (a3 : Int32) (a4 : Int32) (a5 : Int32), av = [.ref 0, .int a0, .int a1, .int a2, .int a3, .int a4, .int a5] → ∃ x, v = some (.int (bI x)) ∧ Q a0 a1 a2 a3 a4 a5 M x M')
def ov_vIIIIIIrZ (P : Int32 → Int32 → Int32 → Int32 → Int32 → Int32 → mM → Prop) (Q : Int32 → Int32 → Int32 → Int32 → Int32 → Int32 → mM → Bool → mM → Prop) : se_Op mM := fun st M K _ => match st with
  | .int a5 :: .int a4 :: .int a3 :: .int a2 :: .int a1 :: .int a0 :: .ref 0 :: r => P a0 a1 a2 a3 a4 a5 M ∧ se_c8 8 r ∧ ∀ x M', Q a0 a1 a2 a3 a4 a5 M x M' → K (.int (bI x) :: r) M'
  | _ => False
def of_vIIIIIIrZ (P : Int32 → Int32 → Int32 → Int32 → Int32 → Int32 → mM → Prop) (R : Int32 → Int32 → Int32 → Int32 → Int32 → Int32 → mM → Bool) (F : Int32 → Int32 → Int32 → Int32 → Int32 → Int32 → mM → mM) : se_Op mM := fun st M K _ => match st with
  | .int a5 :: .int a4 :: .int a3 :: .int a2 :: .int a1 :: .int a0 :: .ref 0 :: r => P a0 a1 a2 a3 a4 a5 M ∧ se_c8 8 r ∧ K (.int (bI (R a0 a1 a2 a3 a4 a5 M)) :: r) (F a0 a1 a2 a3 a4 a5 M)
  | _ => False
theorem ov_vIIIIIIrZ_r {P : Int32 → Int32 → Int32 → Int32 → Int32 → Int32 → mM → Prop} {Q : Int32 → Int32 → Int32 → Int32 → Int32 → Int32 → mM → Bool → mM → Prop} {a0 : Int32} {a1 : Int32} {a2 : Int32} {a3 : Int32} {a4 : Int32} {a5 : Int32} {r : List Value} {M : mM} {K : List Value → mM → Prop} {X : Nat → mM → Prop} : ov_vIIIIIIrZ P Q (.int a5 :: .int a4 :: .int a3 :: .int a2 :: .int a1 :: .int a0 :: .ref 0 :: r) M K X = (P a0 a1 a2 a3 a4 a5 M ∧ se_c8 8 r ∧ ∀ x M', Q a0 a1 a2 a3 a4 a5 M x M' → K (.int (bI x) :: r) M') := rfl
theorem of_vIIIIIIrZ_r {P : Int32 → Int32 → Int32 → Int32 → Int32 → Int32 → mM → Prop} {R : Int32 → Int32 → Int32 → Int32 → Int32 → Int32 → mM → Bool} {F : Int32 → Int32 → Int32 → Int32 → Int32 → Int32 → mM → mM} {a0 : Int32} {a1 : Int32} {a2 : Int32} {a3 : Int32} {a4 : Int32} {a5 : Int32} {r : List Value} {M : mM} {K : List Value → mM → Prop} {X : Nat → mM → Prop} : of_vIIIIIIrZ P R F (.int a5 :: .int a4 :: .int a3 :: .int a2 :: .int a1 :: .int a0 :: .ref 0 :: r) M K X = (P a0 a1 a2 a3 a4 a5 M ∧ se_c8 8 r ∧ K (.int (bI (R a0 a1 a2 a3 a4 a5 M)) :: r) (F a0 a1 a2 a3 a4 a5 M)) := rfl
section
variable {p : Program} {l : Launch} {e : Env} {s : State} {m : MethodId} {args : Array Value} {below : List Frame} {meth : Method} {c : Code} {nL : Nat} {cc : ByteArray} {ret : Option FieldType} {Q0 : State → Prop} {g : mG} {H0 : Heap} {idx fr lo : Nat}
theorem ov_vIIIIIIrZ_ok {y : MethodName} {cc' : ByteArray} {maxL' fr' lo' : Nat} {P : Int32 → Int32 → Int32 → Int32 → Int32 → Int32 → mM → Prop} {Q : Int32 → Int32 → Int32 → Int32 → Int32 → Int32 → mM → Bool → mM → Prop} (hM : mc_vIIIIIIrZ l y cc' maxL' fr' lo' P Q) (h1 : Cond.methodLink RX2 idx y ∈ lw_all) (h2 : Cond.instanceMethod y ∈ lw_all) (h3 : Cond.selects RX2 y y ∈ lw_all) (h4 : Cond.initialized RX2 ∈ lw_all) (h5 : Cond.code y cc' maxL' (some .boolean) ∈ lw_all) (hd0 : y.cls = RX2 ∧ y.cls ≠ "java/lang/invoke/MethodHandle" ∧ y.cls ≠ "java/lang/invoke/VarHandle" ∧ (parseMethodDescriptor y.desc).map (fun d => d.parameters.length) = some 6) (hR : fr' + 1 ≤ fr ∧ 8 + (maxL' + 11) + lo' ≤ lo) (C : se_Cx p s m args meth c cc nL RX2 ret) (hG : mGl g s) (hI : mInj g) : se_Snd p l e (mRoom fr lo) s m args below meth c Q0 nL g.1 (mRM g H0) cc (.invokevirtual idx) 3 (ov_vIIIIIIrZ P Q) := by
  refine (oC_ok hM h1 h2 h3 h4 h5 hd0 hR C hG hI).mono fun st M K X h => ?_
  unfold ov_vIIIIIIrZ at h
  split at h
  · rename_i a5 a4 a3 a2 a1 a0 r
    exact ⟨[.int a0, .int a1, .int a2, .int a3, .int a4, .int a5], r, rfl, rfl, h.2.1, ⟨a0, a1, a2, a3, a4, a5, rfl, h.1⟩, fun v M' hp => by
      obtain ⟨x, rfl, hq⟩ := hp a0 a1 a2 a3 a4 a5 rfl
      exact h.2.2 x M' hq⟩
  · exact h.elim
theorem of_vIIIIIIrZ_ok {y : MethodName} {cc' : ByteArray} {maxL' fr' lo' : Nat} {P : Int32 → Int32 → Int32 → Int32 → Int32 → Int32 → mM → Prop} {R : Int32 → Int32 → Int32 → Int32 → Int32 → Int32 → mM → Bool} {F : Int32 → Int32 → Int32 → Int32 → Int32 → Int32 → mM → mM} (hM : mc_vIIIIIIrZ l y cc' maxL' fr' lo' P (fun a0 a1 a2 a3 a4 a5 M x M' => x = R a0 a1 a2 a3 a4 a5 M ∧ M' = F a0 a1 a2 a3 a4 a5 M)) (h1 : Cond.methodLink RX2 idx y ∈ lw_all) (h2 : Cond.instanceMethod y ∈ lw_all) (h3 : Cond.selects RX2 y y ∈ lw_all) (h4 : Cond.initialized RX2 ∈ lw_all) (h5 : Cond.code y cc' maxL' (some .boolean) ∈ lw_all) (hd0 : y.cls = RX2 ∧ y.cls ≠ "java/lang/invoke/MethodHandle" ∧ y.cls ≠ "java/lang/invoke/VarHandle" ∧ (parseMethodDescriptor y.desc).map (fun d => d.parameters.length) = some 6) (hR : fr' + 1 ≤ fr ∧ 8 + (maxL' + 11) + lo' ≤ lo) (C : se_Cx p s m args meth c cc nL RX2 ret) (hG : mGl g s) (hI : mInj g) : se_Snd p l e (mRoom fr lo) s m args below meth c Q0 nL g.1 (mRM g H0) cc (.invokevirtual idx) 3 (of_vIIIIIIrZ P R F) := by
  refine (ov_vIIIIIIrZ_ok hM h1 h2 h3 h4 h5 hd0 hR C hG hI).mono fun st M K X h => ?_
  unfold of_vIIIIIIrZ at h
  split at h
  · exact ⟨h.1, h.2.1, fun x M' hq => by
      obtain ⟨rfl, rfl⟩ := hq
      exact h.2.2⟩
  · exact h.elim
end
def rt_vIIIIIIrZ (Q : Int32 → Int32 → Int32 → Int32 → Int32 → Int32 → mM → Bool → mM → Prop) (a0 : Int32) (a1 : Int32) (a2 : Int32) (a3 : Int32) (a4 : Int32) (a5 : Int32) (M : mM) : Option Value → mM → Prop := fun v M' => se_nr (some .boolean) v ∧ (fun (av : List Value) (M : mM) (v : Option Value) (M' : mM) => ∀ (a0 : Int32) (a1 : Int32) (a2 : Int32) (a3 : Int32) (a4 : Int32) (a5 : Int32), av = [.ref 0, .int a0, .int a1, .int a2, .int a3, .int a4, .int a5] → ∃ x, v = some (.int (bI x)) ∧ Q a0 a1 a2 a3 a4 a5 M x M') [.ref 0, .int a0, .int a1, .int a2, .int a3, .int a4, .int a5] M v M'
theorem rt_vIIIIIIrZ_e {Q : Int32 → Int32 → Int32 → Int32 → Int32 → Int32 → mM → Bool → mM → Prop} {a0 : Int32} {a1 : Int32} {a2 : Int32} {a3 : Int32} {a4 : Int32} {a5 : Int32} {M M' : mM} {z : Int32} : rt_vIIIIIIrZ Q a0 a1 a2 a3 a4 a5 M (some (.int z)) M' = (rz z fun x => Q a0 a1 a2 a3 a4 a5 M x M') := by
  apply propext
  constructor
  · intro h
    obtain ⟨x, e, hq⟩ := h.2 a0 a1 a2 a3 a4 a5 rfl
    cases e
    exact ⟨x, rfl, hq⟩
  · intro h
    obtain ⟨x, rfl, hq⟩ := h
    exact ⟨⟨_, rfl, bI_nar x⟩, fun _ _ _ _ _ _ e => by
      cases e
      exact ⟨x, rfl, hq⟩⟩
theorem mc_vIIIIIIrZ_of {l : Launch} {y : MethodName} {cc : ByteArray} {maxL fr lo : Nat} {P : Int32 → Int32 → Int32 → Int32 → Int32 → Int32 → mM → Prop} {Q : Int32 → Int32 → Int32 → Int32 → Int32 → Int32 → mM → Bool → mM → Prop} {T : Nat → Nat → se_Op mM} (hy : plainName y.cls = true) (hyc : y.cls = RX2) (hT : mTS l cc maxL (some .boolean) fr lo T) (hL : 7 ≤ maxL)
    (body : ∀ (a0 : Int32) (a1 : Int32) (a2 : Int32) (a3 : Int32) (a4 : Int32) (a5 : Int32) (M : mM), P a0 a1 a2 a3 a4 a5 M → ∀ G : Nat → se_L → List Value → mM → Prop, (∀ (stops : List Nat) (n pc : Nat) (L : se_L) (st : List Value) (M' : mM), wpN False T cc stops G (fun _ _ _ _ => False) (rt_vIIIIIIrZ Q a0 a1 a2 a3 a4 a5 M) n pc L st M' → G pc L st M') → G 0 (se_ent [.ref 0, .int a0, .int a1, .int a2, .int a3, .int a4, .int a5] maxL) [] M) : mc_vIIIIIIrZ l y cc maxL fr lo P Q :=
  mOf hy hyc hT (fun av M h => by
    obtain ⟨a0, a1, a2, a3, a4, a5, rfl, _⟩ := h
    exact hL) (fun av M hp G hG => by
    obtain ⟨a0, a1, a2, a3, a4, a5, rfl, hp⟩ := hp
    exact body a0 a1 a2 a3 a4 a5 M hp G hG)
abbrev mc_vIIZrZ (l : Launch) (y : MethodName) (cc : ByteArray) (maxL fr lo : Nat) (P : Int32 → Int32 → Int32 → mM → Prop) (Q : Int32 → Int32 → Int32 → mM → Bool → mM → Prop) : Prop := mCon l y cc maxL (some .boolean) fr lo (fun av M => ∃ (a0 : Int32) (a1 : Int32) (a2 : Int32), av = [.ref 0, .int a0, .int a1, .int a2] ∧ P a0 a1 a2 M) (fun av M v M' => ∀ (a0 : Int32) (a1 : Int32) (a2 : Int32), av = [.ref 0, .int a0, .int a1, .int a2] → ∃ x, v = some (.int (bI x)) ∧ Q a0 a1 a2 M x M')
def ov_vIIZrZ (P : Int32 → Int32 → Int32 → mM → Prop) (Q : Int32 → Int32 → Int32 → mM → Bool → mM → Prop) : se_Op mM := fun st M K _ => match st with
  | .int a2 :: .int a1 :: .int a0 :: .ref 0 :: r => P a0 a1 a2 M ∧ se_c8 8 r ∧ ∀ x M', Q a0 a1 a2 M x M' → K (.int (bI x) :: r) M'
  | _ => False
def of_vIIZrZ (P : Int32 → Int32 → Int32 → mM → Prop) (R : Int32 → Int32 → Int32 → mM → Bool) (F : Int32 → Int32 → Int32 → mM → mM) : se_Op mM := fun st M K _ => match st with
  | .int a2 :: .int a1 :: .int a0 :: .ref 0 :: r => P a0 a1 a2 M ∧ se_c8 8 r ∧ K (.int (bI (R a0 a1 a2 M)) :: r) (F a0 a1 a2 M)
  | _ => False
theorem ov_vIIZrZ_r {P : Int32 → Int32 → Int32 → mM → Prop} {Q : Int32 → Int32 → Int32 → mM → Bool → mM → Prop} {a0 : Int32} {a1 : Int32} {a2 : Int32} {r : List Value} {M : mM} {K : List Value → mM → Prop} {X : Nat → mM → Prop} : ov_vIIZrZ P Q (.int a2 :: .int a1 :: .int a0 :: .ref 0 :: r) M K X = (P a0 a1 a2 M ∧ se_c8 8 r ∧ ∀ x M', Q a0 a1 a2 M x M' → K (.int (bI x) :: r) M') := rfl
theorem of_vIIZrZ_r {P : Int32 → Int32 → Int32 → mM → Prop} {R : Int32 → Int32 → Int32 → mM → Bool} {F : Int32 → Int32 → Int32 → mM → mM} {a0 : Int32} {a1 : Int32} {a2 : Int32} {r : List Value} {M : mM} {K : List Value → mM → Prop} {X : Nat → mM → Prop} : of_vIIZrZ P R F (.int a2 :: .int a1 :: .int a0 :: .ref 0 :: r) M K X = (P a0 a1 a2 M ∧ se_c8 8 r ∧ K (.int (bI (R a0 a1 a2 M)) :: r) (F a0 a1 a2 M)) := rfl
section
variable {p : Program} {l : Launch} {e : Env} {s : State} {m : MethodId} {args : Array Value} {below : List Frame} {meth : Method} {c : Code} {nL : Nat} {cc : ByteArray} {ret : Option FieldType} {Q0 : State → Prop} {g : mG} {H0 : Heap} {idx fr lo : Nat}
theorem ov_vIIZrZ_ok {y : MethodName} {cc' : ByteArray} {maxL' fr' lo' : Nat} {P : Int32 → Int32 → Int32 → mM → Prop} {Q : Int32 → Int32 → Int32 → mM → Bool → mM → Prop} (hM : mc_vIIZrZ l y cc' maxL' fr' lo' P Q) (h1 : Cond.methodLink RX2 idx y ∈ lw_all) (h2 : Cond.instanceMethod y ∈ lw_all) (h3 : Cond.selects RX2 y y ∈ lw_all) (h4 : Cond.initialized RX2 ∈ lw_all) (h5 : Cond.code y cc' maxL' (some .boolean) ∈ lw_all) (hd0 : y.cls = RX2 ∧ y.cls ≠ "java/lang/invoke/MethodHandle" ∧ y.cls ≠ "java/lang/invoke/VarHandle" ∧ (parseMethodDescriptor y.desc).map (fun d => d.parameters.length) = some 3) (hR : fr' + 1 ≤ fr ∧ 8 + (maxL' + 11) + lo' ≤ lo) (C : se_Cx p s m args meth c cc nL RX2 ret) (hG : mGl g s) (hI : mInj g) : se_Snd p l e (mRoom fr lo) s m args below meth c Q0 nL g.1 (mRM g H0) cc (.invokevirtual idx) 3 (ov_vIIZrZ P Q) := by
  refine (oC_ok hM h1 h2 h3 h4 h5 hd0 hR C hG hI).mono fun st M K X h => ?_
  unfold ov_vIIZrZ at h
  split at h
  · rename_i a2 a1 a0 r
    exact ⟨[.int a0, .int a1, .int a2], r, rfl, rfl, h.2.1, ⟨a0, a1, a2, rfl, h.1⟩, fun v M' hp => by
      obtain ⟨x, rfl, hq⟩ := hp a0 a1 a2 rfl
      exact h.2.2 x M' hq⟩
  · exact h.elim
theorem of_vIIZrZ_ok {y : MethodName} {cc' : ByteArray} {maxL' fr' lo' : Nat} {P : Int32 → Int32 → Int32 → mM → Prop} {R : Int32 → Int32 → Int32 → mM → Bool} {F : Int32 → Int32 → Int32 → mM → mM} (hM : mc_vIIZrZ l y cc' maxL' fr' lo' P (fun a0 a1 a2 M x M' => x = R a0 a1 a2 M ∧ M' = F a0 a1 a2 M)) (h1 : Cond.methodLink RX2 idx y ∈ lw_all) (h2 : Cond.instanceMethod y ∈ lw_all) (h3 : Cond.selects RX2 y y ∈ lw_all) (h4 : Cond.initialized RX2 ∈ lw_all) (h5 : Cond.code y cc' maxL' (some .boolean) ∈ lw_all) (hd0 : y.cls = RX2 ∧ y.cls ≠ "java/lang/invoke/MethodHandle" ∧ y.cls ≠ "java/lang/invoke/VarHandle" ∧ (parseMethodDescriptor y.desc).map (fun d => d.parameters.length) = some 3) (hR : fr' + 1 ≤ fr ∧ 8 + (maxL' + 11) + lo' ≤ lo) (C : se_Cx p s m args meth c cc nL RX2 ret) (hG : mGl g s) (hI : mInj g) : se_Snd p l e (mRoom fr lo) s m args below meth c Q0 nL g.1 (mRM g H0) cc (.invokevirtual idx) 3 (of_vIIZrZ P R F) := by
  refine (ov_vIIZrZ_ok hM h1 h2 h3 h4 h5 hd0 hR C hG hI).mono fun st M K X h => ?_
  unfold of_vIIZrZ at h
  split at h
  · exact ⟨h.1, h.2.1, fun x M' hq => by
      obtain ⟨rfl, rfl⟩ := hq
      exact h.2.2⟩
  · exact h.elim
end
def rt_vIIZrZ (Q : Int32 → Int32 → Int32 → mM → Bool → mM → Prop) (a0 : Int32) (a1 : Int32) (a2 : Int32) (M : mM) : Option Value → mM → Prop := fun v M' => se_nr (some .boolean) v ∧ (fun (av : List Value) (M : mM) (v : Option Value) (M' : mM) => ∀ (a0 : Int32) (a1 : Int32) (a2 : Int32), av = [.ref 0, .int a0, .int a1, .int a2] → ∃ x, v = some (.int (bI x)) ∧ Q a0 a1 a2 M x M') [.ref 0, .int a0, .int a1, .int a2] M v M'
theorem rt_vIIZrZ_e {Q : Int32 → Int32 → Int32 → mM → Bool → mM → Prop} {a0 : Int32} {a1 : Int32} {a2 : Int32} {M M' : mM} {z : Int32} : rt_vIIZrZ Q a0 a1 a2 M (some (.int z)) M' = (rz z fun x => Q a0 a1 a2 M x M') := by
  apply propext
  constructor
  · intro h
    obtain ⟨x, e, hq⟩ := h.2 a0 a1 a2 rfl
    cases e
    exact ⟨x, rfl, hq⟩
  · intro h
    obtain ⟨x, rfl, hq⟩ := h
    exact ⟨⟨_, rfl, bI_nar x⟩, fun _ _ _ e => by
      cases e
      exact ⟨x, rfl, hq⟩⟩
theorem mc_vIIZrZ_of {l : Launch} {y : MethodName} {cc : ByteArray} {maxL fr lo : Nat} {P : Int32 → Int32 → Int32 → mM → Prop} {Q : Int32 → Int32 → Int32 → mM → Bool → mM → Prop} {T : Nat → Nat → se_Op mM} (hy : plainName y.cls = true) (hyc : y.cls = RX2) (hT : mTS l cc maxL (some .boolean) fr lo T) (hL : 4 ≤ maxL)
    (body : ∀ (a0 : Int32) (a1 : Int32) (a2 : Int32) (M : mM), P a0 a1 a2 M → ∀ G : Nat → se_L → List Value → mM → Prop, (∀ (stops : List Nat) (n pc : Nat) (L : se_L) (st : List Value) (M' : mM), wpN False T cc stops G (fun _ _ _ _ => False) (rt_vIIZrZ Q a0 a1 a2 M) n pc L st M' → G pc L st M') → G 0 (se_ent [.ref 0, .int a0, .int a1, .int a2] maxL) [] M) : mc_vIIZrZ l y cc maxL fr lo P Q :=
  mOf hy hyc hT (fun av M h => by
    obtain ⟨a0, a1, a2, rfl, _⟩ := h
    exact hL) (fun av M hp G hG => by
    obtain ⟨a0, a1, a2, rfl, hp⟩ := hp
    exact body a0 a1 a2 M hp G hG)
abbrev mc_vJrV (l : Launch) (y : MethodName) (cc : ByteArray) (maxL fr lo : Nat) (P : Int64 → mM → Prop) (Q : Int64 → mM → mM → Prop) : Prop := mCon l y cc maxL none fr lo (fun av M => ∃ (a0 : Int64), av = [.ref 0, .long a0] ∧ P a0 M) (fun av M v M' => ∀ (a0 : Int64), av = [.ref 0, .long a0] → v = none ∧ Q a0 M M')
def ov_vJrV (P : Int64 → mM → Prop) (Q : Int64 → mM → mM → Prop) : se_Op mM := fun st M K _ => match st with
  | .long a0 :: .ref 0 :: r => P a0 M ∧ se_c8 8 r ∧ ∀ M', Q a0 M M' → K r M'
  | _ => False
def of_vJrV (P : Int64 → mM → Prop) (F : Int64 → mM → mM) : se_Op mM := fun st M K _ => match st with
  | .long a0 :: .ref 0 :: r => P a0 M ∧ se_c8 8 r ∧ K r (F a0 M)
  | _ => False
theorem ov_vJrV_r {P : Int64 → mM → Prop} {Q : Int64 → mM → mM → Prop} {a0 : Int64} {r : List Value} {M : mM} {K : List Value → mM → Prop} {X : Nat → mM → Prop} : ov_vJrV P Q (.long a0 :: .ref 0 :: r) M K X = (P a0 M ∧ se_c8 8 r ∧ ∀ M', Q a0 M M' → K r M') := rfl
theorem of_vJrV_r {P : Int64 → mM → Prop} {F : Int64 → mM → mM} {a0 : Int64} {r : List Value} {M : mM} {K : List Value → mM → Prop} {X : Nat → mM → Prop} : of_vJrV P F (.long a0 :: .ref 0 :: r) M K X = (P a0 M ∧ se_c8 8 r ∧ K r (F a0 M)) := rfl
section
variable {p : Program} {l : Launch} {e : Env} {s : State} {m : MethodId} {args : Array Value} {below : List Frame} {meth : Method} {c : Code} {nL : Nat} {cc : ByteArray} {ret : Option FieldType} {Q0 : State → Prop} {g : mG} {H0 : Heap} {idx fr lo : Nat}
theorem ov_vJrV_ok {y : MethodName} {cc' : ByteArray} {maxL' fr' lo' : Nat} {P : Int64 → mM → Prop} {Q : Int64 → mM → mM → Prop} (hM : mc_vJrV l y cc' maxL' fr' lo' P Q) (h1 : Cond.methodLink RX2 idx y ∈ lw_all) (h2 : Cond.instanceMethod y ∈ lw_all) (h3 : Cond.selects RX2 y y ∈ lw_all) (h4 : Cond.initialized RX2 ∈ lw_all) (h5 : Cond.code y cc' maxL' none ∈ lw_all) (hd0 : y.cls = RX2 ∧ y.cls ≠ "java/lang/invoke/MethodHandle" ∧ y.cls ≠ "java/lang/invoke/VarHandle" ∧ (parseMethodDescriptor y.desc).map (fun d => d.parameters.length) = some 1) (hR : fr' + 1 ≤ fr ∧ 8 + (maxL' + 11) + lo' ≤ lo) (C : se_Cx p s m args meth c cc nL RX2 ret) (hG : mGl g s) (hI : mInj g) : se_Snd p l e (mRoom fr lo) s m args below meth c Q0 nL g.1 (mRM g H0) cc (.invokevirtual idx) 3 (ov_vJrV P Q) := by
  refine (oC_ok hM h1 h2 h3 h4 h5 hd0 hR C hG hI).mono fun st M K X h => ?_
  unfold ov_vJrV at h
  split at h
  · rename_i a0 r
    exact ⟨[.long a0], r, rfl, rfl, h.2.1, ⟨a0, rfl, h.1⟩, fun v M' hp => by
      obtain ⟨rfl, hq⟩ := hp a0 rfl
      exact h.2.2 M' hq⟩
  · exact h.elim
theorem of_vJrV_ok {y : MethodName} {cc' : ByteArray} {maxL' fr' lo' : Nat} {P : Int64 → mM → Prop} {F : Int64 → mM → mM} (hM : mc_vJrV l y cc' maxL' fr' lo' P (fun a0 M M' => M' = F a0 M)) (h1 : Cond.methodLink RX2 idx y ∈ lw_all) (h2 : Cond.instanceMethod y ∈ lw_all) (h3 : Cond.selects RX2 y y ∈ lw_all) (h4 : Cond.initialized RX2 ∈ lw_all) (h5 : Cond.code y cc' maxL' none ∈ lw_all) (hd0 : y.cls = RX2 ∧ y.cls ≠ "java/lang/invoke/MethodHandle" ∧ y.cls ≠ "java/lang/invoke/VarHandle" ∧ (parseMethodDescriptor y.desc).map (fun d => d.parameters.length) = some 1) (hR : fr' + 1 ≤ fr ∧ 8 + (maxL' + 11) + lo' ≤ lo) (C : se_Cx p s m args meth c cc nL RX2 ret) (hG : mGl g s) (hI : mInj g) : se_Snd p l e (mRoom fr lo) s m args below meth c Q0 nL g.1 (mRM g H0) cc (.invokevirtual idx) 3 (of_vJrV P F) := by
  refine (ov_vJrV_ok hM h1 h2 h3 h4 h5 hd0 hR C hG hI).mono fun st M K X h => ?_
  unfold of_vJrV at h
  split at h
  · exact ⟨h.1, h.2.1, fun M' hq => by
      subst hq
      exact h.2.2⟩
  · exact h.elim
end
def rt_vJrV (Q : Int64 → mM → mM → Prop) (a0 : Int64) (M : mM) : Option Value → mM → Prop := fun v M' => se_nr none v ∧ (fun (av : List Value) (M : mM) (v : Option Value) (M' : mM) => ∀ (a0 : Int64), av = [.ref 0, .long a0] → v = none ∧ Q a0 M M') [.ref 0, .long a0] M v M'
theorem rt_vJrV_e {Q : Int64 → mM → mM → Prop} {a0 : Int64} {M M' : mM}  : rt_vJrV Q a0 M none M' = (Q a0 M M') := by
  apply propext
  constructor
  · intro h
    exact (h.2 a0 rfl).2
  · intro h
    exact ⟨rfl, fun _ e => by
      cases e
      exact ⟨rfl, h⟩⟩
theorem mc_vJrV_of {l : Launch} {y : MethodName} {cc : ByteArray} {maxL fr lo : Nat} {P : Int64 → mM → Prop} {Q : Int64 → mM → mM → Prop} {T : Nat → Nat → se_Op mM} (hy : plainName y.cls = true) (hyc : y.cls = RX2) (hT : mTS l cc maxL none fr lo T) (hL : 3 ≤ maxL)
    (body : ∀ (a0 : Int64) (M : mM), P a0 M → ∀ G : Nat → se_L → List Value → mM → Prop, (∀ (stops : List Nat) (n pc : Nat) (L : se_L) (st : List Value) (M' : mM), wpN False T cc stops G (fun _ _ _ _ => False) (rt_vJrV Q a0 M) n pc L st M' → G pc L st M') → G 0 (se_ent [.ref 0, .long a0] maxL) [] M) : mc_vJrV l y cc maxL fr lo P Q :=
  mOf hy hyc hT (fun av M h => by
    obtain ⟨a0, rfl, _⟩ := h
    exact hL) (fun av M hp G hG => by
    obtain ⟨a0, rfl, hp⟩ := hp
    exact body a0 M hp G hG)
abbrev mc_vJrZ (l : Launch) (y : MethodName) (cc : ByteArray) (maxL fr lo : Nat) (P : Int64 → mM → Prop) (Q : Int64 → mM → Bool → mM → Prop) : Prop := mCon l y cc maxL (some .boolean) fr lo (fun av M => ∃ (a0 : Int64), av = [.ref 0, .long a0] ∧ P a0 M) (fun av M v M' => ∀ (a0 : Int64), av = [.ref 0, .long a0] → ∃ x, v = some (.int (bI x)) ∧ Q a0 M x M')
def ov_vJrZ (P : Int64 → mM → Prop) (Q : Int64 → mM → Bool → mM → Prop) : se_Op mM := fun st M K _ => match st with
  | .long a0 :: .ref 0 :: r => P a0 M ∧ se_c8 8 r ∧ ∀ x M', Q a0 M x M' → K (.int (bI x) :: r) M'
  | _ => False
def of_vJrZ (P : Int64 → mM → Prop) (R : Int64 → mM → Bool) (F : Int64 → mM → mM) : se_Op mM := fun st M K _ => match st with
  | .long a0 :: .ref 0 :: r => P a0 M ∧ se_c8 8 r ∧ K (.int (bI (R a0 M)) :: r) (F a0 M)
  | _ => False
theorem ov_vJrZ_r {P : Int64 → mM → Prop} {Q : Int64 → mM → Bool → mM → Prop} {a0 : Int64} {r : List Value} {M : mM} {K : List Value → mM → Prop} {X : Nat → mM → Prop} : ov_vJrZ P Q (.long a0 :: .ref 0 :: r) M K X = (P a0 M ∧ se_c8 8 r ∧ ∀ x M', Q a0 M x M' → K (.int (bI x) :: r) M') := rfl
theorem of_vJrZ_r {P : Int64 → mM → Prop} {R : Int64 → mM → Bool} {F : Int64 → mM → mM} {a0 : Int64} {r : List Value} {M : mM} {K : List Value → mM → Prop} {X : Nat → mM → Prop} : of_vJrZ P R F (.long a0 :: .ref 0 :: r) M K X = (P a0 M ∧ se_c8 8 r ∧ K (.int (bI (R a0 M)) :: r) (F a0 M)) := rfl
section
variable {p : Program} {l : Launch} {e : Env} {s : State} {m : MethodId} {args : Array Value} {below : List Frame} {meth : Method} {c : Code} {nL : Nat} {cc : ByteArray} {ret : Option FieldType} {Q0 : State → Prop} {g : mG} {H0 : Heap} {idx fr lo : Nat}
theorem ov_vJrZ_ok {y : MethodName} {cc' : ByteArray} {maxL' fr' lo' : Nat} {P : Int64 → mM → Prop} {Q : Int64 → mM → Bool → mM → Prop} (hM : mc_vJrZ l y cc' maxL' fr' lo' P Q) (h1 : Cond.methodLink RX2 idx y ∈ lw_all) (h2 : Cond.instanceMethod y ∈ lw_all) (h3 : Cond.selects RX2 y y ∈ lw_all) (h4 : Cond.initialized RX2 ∈ lw_all) (h5 : Cond.code y cc' maxL' (some .boolean) ∈ lw_all) (hd0 : y.cls = RX2 ∧ y.cls ≠ "java/lang/invoke/MethodHandle" ∧ y.cls ≠ "java/lang/invoke/VarHandle" ∧ (parseMethodDescriptor y.desc).map (fun d => d.parameters.length) = some 1) (hR : fr' + 1 ≤ fr ∧ 8 + (maxL' + 11) + lo' ≤ lo) (C : se_Cx p s m args meth c cc nL RX2 ret) (hG : mGl g s) (hI : mInj g) : se_Snd p l e (mRoom fr lo) s m args below meth c Q0 nL g.1 (mRM g H0) cc (.invokevirtual idx) 3 (ov_vJrZ P Q) := by
  refine (oC_ok hM h1 h2 h3 h4 h5 hd0 hR C hG hI).mono fun st M K X h => ?_
  unfold ov_vJrZ at h
  split at h
  · rename_i a0 r
    exact ⟨[.long a0], r, rfl, rfl, h.2.1, ⟨a0, rfl, h.1⟩, fun v M' hp => by
      obtain ⟨x, rfl, hq⟩ := hp a0 rfl
      exact h.2.2 x M' hq⟩
  · exact h.elim
theorem of_vJrZ_ok {y : MethodName} {cc' : ByteArray} {maxL' fr' lo' : Nat} {P : Int64 → mM → Prop} {R : Int64 → mM → Bool} {F : Int64 → mM → mM} (hM : mc_vJrZ l y cc' maxL' fr' lo' P (fun a0 M x M' => x = R a0 M ∧ M' = F a0 M)) (h1 : Cond.methodLink RX2 idx y ∈ lw_all) (h2 : Cond.instanceMethod y ∈ lw_all) (h3 : Cond.selects RX2 y y ∈ lw_all) (h4 : Cond.initialized RX2 ∈ lw_all) (h5 : Cond.code y cc' maxL' (some .boolean) ∈ lw_all) (hd0 : y.cls = RX2 ∧ y.cls ≠ "java/lang/invoke/MethodHandle" ∧ y.cls ≠ "java/lang/invoke/VarHandle" ∧ (parseMethodDescriptor y.desc).map (fun d => d.parameters.length) = some 1) (hR : fr' + 1 ≤ fr ∧ 8 + (maxL' + 11) + lo' ≤ lo) (C : se_Cx p s m args meth c cc nL RX2 ret) (hG : mGl g s) (hI : mInj g) : se_Snd p l e (mRoom fr lo) s m args below meth c Q0 nL g.1 (mRM g H0) cc (.invokevirtual idx) 3 (of_vJrZ P R F) := by
  refine (ov_vJrZ_ok hM h1 h2 h3 h4 h5 hd0 hR C hG hI).mono fun st M K X h => ?_
  unfold of_vJrZ at h
  split at h
  · exact ⟨h.1, h.2.1, fun x M' hq => by
      obtain ⟨rfl, rfl⟩ := hq
      exact h.2.2⟩
  · exact h.elim
end
def rt_vJrZ (Q : Int64 → mM → Bool → mM → Prop) (a0 : Int64) (M : mM) : Option Value → mM → Prop := fun v M' => se_nr (some .boolean) v ∧ (fun (av : List Value) (M : mM) (v : Option Value) (M' : mM) => ∀ (a0 : Int64), av = [.ref 0, .long a0] → ∃ x, v = some (.int (bI x)) ∧ Q a0 M x M') [.ref 0, .long a0] M v M'
theorem rt_vJrZ_e {Q : Int64 → mM → Bool → mM → Prop} {a0 : Int64} {M M' : mM} {z : Int32} : rt_vJrZ Q a0 M (some (.int z)) M' = (rz z fun x => Q a0 M x M') := by
  apply propext
  constructor
  · intro h
    obtain ⟨x, e, hq⟩ := h.2 a0 rfl
    cases e
    exact ⟨x, rfl, hq⟩
  · intro h
    obtain ⟨x, rfl, hq⟩ := h
    exact ⟨⟨_, rfl, bI_nar x⟩, fun _ e => by
      cases e
      exact ⟨x, rfl, hq⟩⟩
theorem mc_vJrZ_of {l : Launch} {y : MethodName} {cc : ByteArray} {maxL fr lo : Nat} {P : Int64 → mM → Prop} {Q : Int64 → mM → Bool → mM → Prop} {T : Nat → Nat → se_Op mM} (hy : plainName y.cls = true) (hyc : y.cls = RX2) (hT : mTS l cc maxL (some .boolean) fr lo T) (hL : 3 ≤ maxL)
    (body : ∀ (a0 : Int64) (M : mM), P a0 M → ∀ G : Nat → se_L → List Value → mM → Prop, (∀ (stops : List Nat) (n pc : Nat) (L : se_L) (st : List Value) (M' : mM), wpN False T cc stops G (fun _ _ _ _ => False) (rt_vJrZ Q a0 M) n pc L st M' → G pc L st M') → G 0 (se_ent [.ref 0, .long a0] maxL) [] M) : mc_vJrZ l y cc maxL fr lo P Q :=
  mOf hy hyc hT (fun av M h => by
    obtain ⟨a0, rfl, _⟩ := h
    exact hL) (fun av M hp G hG => by
    obtain ⟨a0, rfl, hp⟩ := hp
    exact body a0 M hp G hG)
abbrev mc_vJIIrI (l : Launch) (y : MethodName) (cc : ByteArray) (maxL fr lo : Nat) (P : Int64 → Int32 → Int32 → mM → Prop) (Q : Int64 → Int32 → Int32 → mM → Int32 → mM → Prop) : Prop := mCon l y cc maxL (some .int) fr lo (fun av M => ∃ (a0 : Int64) (a1 : Int32) (a2 : Int32), av = [.ref 0, .long a0, .int a1, .int a2] ∧ P a0 a1 a2 M) (fun av M v M' => ∀ (a0 : Int64) (a1 : Int32) (a2 : Int32), av = [.ref 0, .long a0, .int a1, .int a2] → ∃ x, v = some (.int x) ∧ Q a0 a1 a2 M x M')
def ov_vJIIrI (P : Int64 → Int32 → Int32 → mM → Prop) (Q : Int64 → Int32 → Int32 → mM → Int32 → mM → Prop) : se_Op mM := fun st M K _ => match st with
  | .int a2 :: .int a1 :: .long a0 :: .ref 0 :: r => P a0 a1 a2 M ∧ se_c8 8 r ∧ ∀ x M', Q a0 a1 a2 M x M' → K (.int x :: r) M'
  | _ => False
def of_vJIIrI (P : Int64 → Int32 → Int32 → mM → Prop) (R : Int64 → Int32 → Int32 → mM → Int32) (F : Int64 → Int32 → Int32 → mM → mM) : se_Op mM := fun st M K _ => match st with
  | .int a2 :: .int a1 :: .long a0 :: .ref 0 :: r => P a0 a1 a2 M ∧ se_c8 8 r ∧ K (.int (R a0 a1 a2 M) :: r) (F a0 a1 a2 M)
  | _ => False
theorem ov_vJIIrI_r {P : Int64 → Int32 → Int32 → mM → Prop} {Q : Int64 → Int32 → Int32 → mM → Int32 → mM → Prop} {a0 : Int64} {a1 : Int32} {a2 : Int32} {r : List Value} {M : mM} {K : List Value → mM → Prop} {X : Nat → mM → Prop} : ov_vJIIrI P Q (.int a2 :: .int a1 :: .long a0 :: .ref 0 :: r) M K X = (P a0 a1 a2 M ∧ se_c8 8 r ∧ ∀ x M', Q a0 a1 a2 M x M' → K (.int x :: r) M') := rfl
theorem of_vJIIrI_r {P : Int64 → Int32 → Int32 → mM → Prop} {R : Int64 → Int32 → Int32 → mM → Int32} {F : Int64 → Int32 → Int32 → mM → mM} {a0 : Int64} {a1 : Int32} {a2 : Int32} {r : List Value} {M : mM} {K : List Value → mM → Prop} {X : Nat → mM → Prop} : of_vJIIrI P R F (.int a2 :: .int a1 :: .long a0 :: .ref 0 :: r) M K X = (P a0 a1 a2 M ∧ se_c8 8 r ∧ K (.int (R a0 a1 a2 M) :: r) (F a0 a1 a2 M)) := rfl
section
variable {p : Program} {l : Launch} {e : Env} {s : State} {m : MethodId} {args : Array Value} {below : List Frame} {meth : Method} {c : Code} {nL : Nat} {cc : ByteArray} {ret : Option FieldType} {Q0 : State → Prop} {g : mG} {H0 : Heap} {idx fr lo : Nat}
theorem ov_vJIIrI_ok {y : MethodName} {cc' : ByteArray} {maxL' fr' lo' : Nat} {P : Int64 → Int32 → Int32 → mM → Prop} {Q : Int64 → Int32 → Int32 → mM → Int32 → mM → Prop} (hM : mc_vJIIrI l y cc' maxL' fr' lo' P Q) (h1 : Cond.methodLink RX2 idx y ∈ lw_all) (h2 : Cond.instanceMethod y ∈ lw_all) (h3 : Cond.selects RX2 y y ∈ lw_all) (h4 : Cond.initialized RX2 ∈ lw_all) (h5 : Cond.code y cc' maxL' (some .int) ∈ lw_all) (hd0 : y.cls = RX2 ∧ y.cls ≠ "java/lang/invoke/MethodHandle" ∧ y.cls ≠ "java/lang/invoke/VarHandle" ∧ (parseMethodDescriptor y.desc).map (fun d => d.parameters.length) = some 3) (hR : fr' + 1 ≤ fr ∧ 8 + (maxL' + 11) + lo' ≤ lo) (C : se_Cx p s m args meth c cc nL RX2 ret) (hG : mGl g s) (hI : mInj g) : se_Snd p l e (mRoom fr lo) s m args below meth c Q0 nL g.1 (mRM g H0) cc (.invokevirtual idx) 3 (ov_vJIIrI P Q) := by
  refine (oC_ok hM h1 h2 h3 h4 h5 hd0 hR C hG hI).mono fun st M K X h => ?_
  unfold ov_vJIIrI at h
  split at h
  · rename_i a2 a1 a0 r
    exact ⟨[.long a0, .int a1, .int a2], r, rfl, rfl, h.2.1, ⟨a0, a1, a2, rfl, h.1⟩, fun v M' hp => by
      obtain ⟨x, rfl, hq⟩ := hp a0 a1 a2 rfl
      exact h.2.2 x M' hq⟩
  · exact h.elim
theorem of_vJIIrI_ok {y : MethodName} {cc' : ByteArray} {maxL' fr' lo' : Nat} {P : Int64 → Int32 → Int32 → mM → Prop} {R : Int64 → Int32 → Int32 → mM → Int32} {F : Int64 → Int32 → Int32 → mM → mM} (hM : mc_vJIIrI l y cc' maxL' fr' lo' P (fun a0 a1 a2 M x M' => x = R a0 a1 a2 M ∧ M' = F a0 a1 a2 M)) (h1 : Cond.methodLink RX2 idx y ∈ lw_all) (h2 : Cond.instanceMethod y ∈ lw_all) (h3 : Cond.selects RX2 y y ∈ lw_all) (h4 : Cond.initialized RX2 ∈ lw_all) (h5 : Cond.code y cc' maxL' (some .int) ∈ lw_all) (hd0 : y.cls = RX2 ∧ y.cls ≠ "java/lang/invoke/MethodHandle" ∧ y.cls ≠ "java/lang/invoke/VarHandle" ∧ (parseMethodDescriptor y.desc).map (fun d => d.parameters.length) = some 3) (hR : fr' + 1 ≤ fr ∧ 8 + (maxL' + 11) + lo' ≤ lo) (C : se_Cx p s m args meth c cc nL RX2 ret) (hG : mGl g s) (hI : mInj g) : se_Snd p l e (mRoom fr lo) s m args below meth c Q0 nL g.1 (mRM g H0) cc (.invokevirtual idx) 3 (of_vJIIrI P R F) := by
  refine (ov_vJIIrI_ok hM h1 h2 h3 h4 h5 hd0 hR C hG hI).mono fun st M K X h => ?_
  unfold of_vJIIrI at h
  split at h
  · exact ⟨h.1, h.2.1, fun x M' hq => by
      obtain ⟨rfl, rfl⟩ := hq
      exact h.2.2⟩
  · exact h.elim
end
def rt_vJIIrI (Q : Int64 → Int32 → Int32 → mM → Int32 → mM → Prop) (a0 : Int64) (a1 : Int32) (a2 : Int32) (M : mM) : Option Value → mM → Prop := fun v M' => se_nr (some .int) v ∧ (fun (av : List Value) (M : mM) (v : Option Value) (M' : mM) => ∀ (a0 : Int64) (a1 : Int32) (a2 : Int32), av = [.ref 0, .long a0, .int a1, .int a2] → ∃ x, v = some (.int x) ∧ Q a0 a1 a2 M x M') [.ref 0, .long a0, .int a1, .int a2] M v M'
theorem rt_vJIIrI_e {Q : Int64 → Int32 → Int32 → mM → Int32 → mM → Prop} {a0 : Int64} {a1 : Int32} {a2 : Int32} {M M' : mM} {z : Int32} : rt_vJIIrI Q a0 a1 a2 M (some (.int z)) M' = (Q a0 a1 a2 M z M') := by
  apply propext
  constructor
  · intro h
    obtain ⟨x, e, hq⟩ := h.2 a0 a1 a2 rfl
    cases e
    exact hq
  · intro h
    exact ⟨⟨_, rfl, rfl⟩, fun _ _ _ e => by
      cases e
      exact ⟨z, rfl, h⟩⟩
theorem mc_vJIIrI_of {l : Launch} {y : MethodName} {cc : ByteArray} {maxL fr lo : Nat} {P : Int64 → Int32 → Int32 → mM → Prop} {Q : Int64 → Int32 → Int32 → mM → Int32 → mM → Prop} {T : Nat → Nat → se_Op mM} (hy : plainName y.cls = true) (hyc : y.cls = RX2) (hT : mTS l cc maxL (some .int) fr lo T) (hL : 5 ≤ maxL)
    (body : ∀ (a0 : Int64) (a1 : Int32) (a2 : Int32) (M : mM), P a0 a1 a2 M → ∀ G : Nat → se_L → List Value → mM → Prop, (∀ (stops : List Nat) (n pc : Nat) (L : se_L) (st : List Value) (M' : mM), wpN False T cc stops G (fun _ _ _ _ => False) (rt_vJIIrI Q a0 a1 a2 M) n pc L st M' → G pc L st M') → G 0 (se_ent [.ref 0, .long a0, .int a1, .int a2] maxL) [] M) : mc_vJIIrI l y cc maxL fr lo P Q :=
  mOf hy hyc hT (fun av M h => by
    obtain ⟨a0, a1, a2, rfl, _⟩ := h
    exact hL) (fun av M hp G hG => by
    obtain ⟨a0, a1, a2, rfl, hp⟩ := hp
    exact body a0 a1 a2 M hp G hG)
abbrev mc_vJJrV (l : Launch) (y : MethodName) (cc : ByteArray) (maxL fr lo : Nat) (P : Int64 → Int64 → mM → Prop) (Q : Int64 → Int64 → mM → mM → Prop) : Prop := mCon l y cc maxL none fr lo (fun av M => ∃ (a0 : Int64) (a1 : Int64), av = [.ref 0, .long a0, .long a1] ∧ P a0 a1 M) (fun av M v M' => ∀ (a0 : Int64) (a1 : Int64), av = [.ref 0, .long a0, .long a1] → v = none ∧ Q a0 a1 M M')
def ov_vJJrV (P : Int64 → Int64 → mM → Prop) (Q : Int64 → Int64 → mM → mM → Prop) : se_Op mM := fun st M K _ => match st with
  | .long a1 :: .long a0 :: .ref 0 :: r => P a0 a1 M ∧ se_c8 8 r ∧ ∀ M', Q a0 a1 M M' → K r M'
  | _ => False
def of_vJJrV (P : Int64 → Int64 → mM → Prop) (F : Int64 → Int64 → mM → mM) : se_Op mM := fun st M K _ => match st with
  | .long a1 :: .long a0 :: .ref 0 :: r => P a0 a1 M ∧ se_c8 8 r ∧ K r (F a0 a1 M)
  | _ => False
theorem ov_vJJrV_r {P : Int64 → Int64 → mM → Prop} {Q : Int64 → Int64 → mM → mM → Prop} {a0 : Int64} {a1 : Int64} {r : List Value} {M : mM} {K : List Value → mM → Prop} {X : Nat → mM → Prop} : ov_vJJrV P Q (.long a1 :: .long a0 :: .ref 0 :: r) M K X = (P a0 a1 M ∧ se_c8 8 r ∧ ∀ M', Q a0 a1 M M' → K r M') := rfl
theorem of_vJJrV_r {P : Int64 → Int64 → mM → Prop} {F : Int64 → Int64 → mM → mM} {a0 : Int64} {a1 : Int64} {r : List Value} {M : mM} {K : List Value → mM → Prop} {X : Nat → mM → Prop} : of_vJJrV P F (.long a1 :: .long a0 :: .ref 0 :: r) M K X = (P a0 a1 M ∧ se_c8 8 r ∧ K r (F a0 a1 M)) := rfl
section
variable {p : Program} {l : Launch} {e : Env} {s : State} {m : MethodId} {args : Array Value} {below : List Frame} {meth : Method} {c : Code} {nL : Nat} {cc : ByteArray} {ret : Option FieldType} {Q0 : State → Prop} {g : mG} {H0 : Heap} {idx fr lo : Nat}
theorem ov_vJJrV_ok {y : MethodName} {cc' : ByteArray} {maxL' fr' lo' : Nat} {P : Int64 → Int64 → mM → Prop} {Q : Int64 → Int64 → mM → mM → Prop} (hM : mc_vJJrV l y cc' maxL' fr' lo' P Q) (h1 : Cond.methodLink RX2 idx y ∈ lw_all) (h2 : Cond.instanceMethod y ∈ lw_all) (h3 : Cond.selects RX2 y y ∈ lw_all) (h4 : Cond.initialized RX2 ∈ lw_all) (h5 : Cond.code y cc' maxL' none ∈ lw_all) (hd0 : y.cls = RX2 ∧ y.cls ≠ "java/lang/invoke/MethodHandle" ∧ y.cls ≠ "java/lang/invoke/VarHandle" ∧ (parseMethodDescriptor y.desc).map (fun d => d.parameters.length) = some 2) (hR : fr' + 1 ≤ fr ∧ 8 + (maxL' + 11) + lo' ≤ lo) (C : se_Cx p s m args meth c cc nL RX2 ret) (hG : mGl g s) (hI : mInj g) : se_Snd p l e (mRoom fr lo) s m args below meth c Q0 nL g.1 (mRM g H0) cc (.invokevirtual idx) 3 (ov_vJJrV P Q) := by
  refine (oC_ok hM h1 h2 h3 h4 h5 hd0 hR C hG hI).mono fun st M K X h => ?_
  unfold ov_vJJrV at h
  split at h
  · rename_i a1 a0 r
    exact ⟨[.long a0, .long a1], r, rfl, rfl, h.2.1, ⟨a0, a1, rfl, h.1⟩, fun v M' hp => by
      obtain ⟨rfl, hq⟩ := hp a0 a1 rfl
      exact h.2.2 M' hq⟩
  · exact h.elim
theorem of_vJJrV_ok {y : MethodName} {cc' : ByteArray} {maxL' fr' lo' : Nat} {P : Int64 → Int64 → mM → Prop} {F : Int64 → Int64 → mM → mM} (hM : mc_vJJrV l y cc' maxL' fr' lo' P (fun a0 a1 M M' => M' = F a0 a1 M)) (h1 : Cond.methodLink RX2 idx y ∈ lw_all) (h2 : Cond.instanceMethod y ∈ lw_all) (h3 : Cond.selects RX2 y y ∈ lw_all) (h4 : Cond.initialized RX2 ∈ lw_all) (h5 : Cond.code y cc' maxL' none ∈ lw_all) (hd0 : y.cls = RX2 ∧ y.cls ≠ "java/lang/invoke/MethodHandle" ∧ y.cls ≠ "java/lang/invoke/VarHandle" ∧ (parseMethodDescriptor y.desc).map (fun d => d.parameters.length) = some 2) (hR : fr' + 1 ≤ fr ∧ 8 + (maxL' + 11) + lo' ≤ lo) (C : se_Cx p s m args meth c cc nL RX2 ret) (hG : mGl g s) (hI : mInj g) : se_Snd p l e (mRoom fr lo) s m args below meth c Q0 nL g.1 (mRM g H0) cc (.invokevirtual idx) 3 (of_vJJrV P F) := by
  refine (ov_vJJrV_ok hM h1 h2 h3 h4 h5 hd0 hR C hG hI).mono fun st M K X h => ?_
  unfold of_vJJrV at h
  split at h
  · exact ⟨h.1, h.2.1, fun M' hq => by
      subst hq
      exact h.2.2⟩
  · exact h.elim
end
def rt_vJJrV (Q : Int64 → Int64 → mM → mM → Prop) (a0 : Int64) (a1 : Int64) (M : mM) : Option Value → mM → Prop := fun v M' => se_nr none v ∧ (fun (av : List Value) (M : mM) (v : Option Value) (M' : mM) => ∀ (a0 : Int64) (a1 : Int64), av = [.ref 0, .long a0, .long a1] → v = none ∧ Q a0 a1 M M') [.ref 0, .long a0, .long a1] M v M'
theorem rt_vJJrV_e {Q : Int64 → Int64 → mM → mM → Prop} {a0 : Int64} {a1 : Int64} {M M' : mM}  : rt_vJJrV Q a0 a1 M none M' = (Q a0 a1 M M') := by
  apply propext
  constructor
  · intro h
    exact (h.2 a0 a1 rfl).2
  · intro h
    exact ⟨rfl, fun _ _ e => by
      cases e
      exact ⟨rfl, h⟩⟩
theorem mc_vJJrV_of {l : Launch} {y : MethodName} {cc : ByteArray} {maxL fr lo : Nat} {P : Int64 → Int64 → mM → Prop} {Q : Int64 → Int64 → mM → mM → Prop} {T : Nat → Nat → se_Op mM} (hy : plainName y.cls = true) (hyc : y.cls = RX2) (hT : mTS l cc maxL none fr lo T) (hL : 5 ≤ maxL)
    (body : ∀ (a0 : Int64) (a1 : Int64) (M : mM), P a0 a1 M → ∀ G : Nat → se_L → List Value → mM → Prop, (∀ (stops : List Nat) (n pc : Nat) (L : se_L) (st : List Value) (M' : mM), wpN False T cc stops G (fun _ _ _ _ => False) (rt_vJJrV Q a0 a1 M) n pc L st M' → G pc L st M') → G 0 (se_ent [.ref 0, .long a0, .long a1] maxL) [] M) : mc_vJJrV l y cc maxL fr lo P Q :=
  mOf hy hyc hT (fun av M h => by
    obtain ⟨a0, a1, rfl, _⟩ := h
    exact hL) (fun av M hp G hG => by
    obtain ⟨a0, a1, rfl, hp⟩ := hp
    exact body a0 a1 M hp G hG)
