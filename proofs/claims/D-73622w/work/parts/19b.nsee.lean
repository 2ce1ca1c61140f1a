/-! throw new NoSuchElementException() -/
def zNS : String := "java/util/NoSuchElementException"
theorem zns_good : ∀ w ∈ (vx_at0 "SafeBuckets" 217 "java/util/NoSuchElementException" ["java/lang/RuntimeException", "java/lang/Exception"]).filter goodWord, w ∈ lw_all :=
  lw_in _ [123, 341, 350, 354, 357, 359, 342, 343, 177, 178, 344, 349, 355, 371, 331, 372, 333, 373, 335, 345, 347, 337, 1551, 1552, 1553, 1554, 1554, 1555, 1556, 1557, 1557, 1558, 1559, 342, 1550, 1540, 1544, 353, 1545, 1546, 1547, 1548, 340, 339, 1549] (by decide +kernel) (by decide +kernel)
